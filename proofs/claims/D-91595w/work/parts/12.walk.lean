set_option maxRecDepth 100000
theorem dX6_stream_0 : decode cX6_stream 0 = .ok (.iload_n 1, 1) := by decide +kernel
theorem dX6_stream_1 : decode cX6_stream 1 = .ok (.iconst 1, 1) := by decide +kernel
theorem dX6_stream_2 : decode cX6_stream 2 = .ok (.sipush 1000, 3) := by decide +kernel
theorem dX6_stream_5 : decode cX6_stream 5 = .ok (.invokestatic 161, 3) := by decide +kernel
theorem dX6_stream_8 : decode cX6_stream 8 = .ok (.ifCond .ne 5, 3) := by decide +kernel
theorem dX6_stream_11 : decode cX6_stream 11 = .ok (.iconst 0, 1) := by decide +kernel
theorem dX6_stream_12 : decode cX6_stream 12 = .ok (.ireturn, 1) := by decide +kernel
theorem dX6_stream_13 : decode cX6_stream 13 = .ok (.aload_n 0, 1) := by decide +kernel
theorem dX6_stream_14 : decode cX6_stream 14 = .ok (.iload_n 1, 1) := by decide +kernel
theorem dX6_stream_15 : decode cX6_stream 15 = .ok (.putfield 319, 3) := by decide +kernel
theorem dX6_stream_18 : decode cX6_stream 18 = .ok (.iconst 1, 1) := by decide +kernel
theorem dX6_stream_19 : decode cX6_stream 19 = .ok (.ireturn, 1) := by decide +kernel
abbrev rm_X6_stream : Room := k2_rm 1 22
section
variable {p : Program} {l : Launch} {e : Env} {s : State} {m : MethodId} {args : Array Value} {below : List Frame} {meth : Method} {c : Code} {D : gD} {A : Nat → Prop} {ad : Nat → Nat} {S : Nat → Nat × Nat} {σ : Mem}
set_option maxRecDepth 100000 in
set_option maxHeartbeats 4000000 in
theorem w_X6_stream {a1 : Int32} (hi0 : S 200 = (24, 0)) {r : (Mem × Int32)} (h : f_X6_stream σ a1 = some r) : Met l yX6_stream (ws_ yX6_stream cX6_stream 2 (some .boolean)) rm_X6_stream (va_Pc [.ref (ad 200), .int a1] (PreG D (Ew D A) A ad S σ)) (QG D A ad S (some (.int r.2)) r.1) 0 0 A := by
  refine y_met (by decide) (Nat.le_of_ble_eq_true rfl) (fun p e s m below meth c ls Z hS hl => ?_)
  have hx := Z.1
  have hb := Z.2.1
  have hown := Z.2.2.2.2.2.1
  have hts := Z.2.2.2.2.2.2.1
  unfold f_X6_stream at h
  refine lv_iload_n hx hb dX6_stream_0 rfl (lv_at hl 1 rfl) ?_
  refine lv_iconst (v := (1 : Int32)) hx hb dX6_stream_1 (by decide) ?_
  refine lv_sipush (v := (1000 : Int32)) hx hb dX6_stream_2 (by decide) ?_
  refine h_ci hS h (fun z hz => h_rS (rest := []) Z hS v_X6_161 (w_X6_in hz) rfl rfl ⟨by decide, by decide⟩ rfl hl.1 rfl (Nat.le_of_ble_eq_true rfl) (Nat.zero_le _) (Nat.zero_le _) dX6_stream_5) (fun x1 H locs hS h => ?_)
  refine lv_if_ne (tgt := 13) hx hb dX6_stream_8 (by decide) (fun c2 => ?_) (fun c2 => ?_)
  · have h := if_f h c2
    refine lv_aload_n hx hb dX6_stream_13 rfl (lv_at hl 0 rfl) ?_
    refine lv_iload_n hx hb dX6_stream_14 rfl (lv_at hl 1 rfl) ?_
    refine h_putI Z hS cls_14 hi0 (by decide) rfl rfl rfl fl_X6_319_14 dX6_stream_15 h (fun σ3 H locs hS h => ?_)
    refine lv_iconst (v := (1 : Int32)) hx hb dX6_stream_18 (by decide) ?_
    exact h_zretm Z hS dX6_stream_19 h
  · have h := if_t h c2
    refine lv_iconst (v := (0 : Int32)) hx hb dX6_stream_11 (by decide) ?_
    exact h_zretm Z hS dX6_stream_12 h
end
theorem dX6_come_0 : decode cX6_come 0 = .ok (.iload_n 1, 1) := by decide +kernel
theorem dX6_come_1 : decode cX6_come 1 = .ok (.iconst 0, 1) := by decide +kernel
theorem dX6_come_2 : decode cX6_come 2 = .ok (.bipush 7, 2) := by decide +kernel
theorem dX6_come_4 : decode cX6_come 4 = .ok (.invokestatic 161, 3) := by decide +kernel
theorem dX6_come_7 : decode cX6_come 7 = .ok (.ifCond .eq 14, 3) := by decide +kernel
theorem dX6_come_10 : decode cX6_come 10 = .ok (.iload_n 2, 1) := by decide +kernel
theorem dX6_come_11 : decode cX6_come 11 = .ok (.iconst 0, 1) := by decide +kernel
theorem dX6_come_12 : decode cX6_come 12 = .ok (.sipush 9999, 3) := by decide +kernel
theorem dX6_come_15 : decode cX6_come 15 = .ok (.invokestatic 161, 3) := by decide +kernel
theorem dX6_come_18 : decode cX6_come 18 = .ok (.ifCond .ne 5, 3) := by decide +kernel
theorem dX6_come_21 : decode cX6_come 21 = .ok (.iconst 0, 1) := by decide +kernel
theorem dX6_come_22 : decode cX6_come 22 = .ok (.ireturn, 1) := by decide +kernel
theorem dX6_come_23 : decode cX6_come 23 = .ok (.aload_n 0, 1) := by decide +kernel
theorem dX6_come_24 : decode cX6_come 24 = .ok (.getfield 95, 3) := by decide +kernel
theorem dX6_come_27 : decode cX6_come 27 = .ok (.iload_n 1, 1) := by decide +kernel
theorem dX6_come_28 : decode cX6_come 28 = .ok (.iload_n 2, 1) := by decide +kernel
theorem dX6_come_29 : decode cX6_come 29 = .ok (.iastore, 1) := by decide +kernel
theorem dX6_come_30 : decode cX6_come 30 = .ok (.iconst 1, 1) := by decide +kernel
theorem dX6_come_31 : decode cX6_come 31 = .ok (.ireturn, 1) := by decide +kernel
abbrev rm_X6_come : Room := k2_rm 1 22
section
variable {p : Program} {l : Launch} {e : Env} {s : State} {m : MethodId} {args : Array Value} {below : List Frame} {meth : Method} {c : Code} {D : gD} {A : Nat → Prop} {ad : Nat → Nat} {S : Nat → Nat × Nat} {σ : Mem}
set_option maxRecDepth 100000 in
set_option maxHeartbeats 4000000 in
theorem w_X6_come {a1 : Int32} {a2 : Int32} (hi0 : S 200 = (24, 0)) {r : (Mem × Int32)} (h : f_X6_come σ a1 a2 = some r) : Met l yX6_come (ws_ yX6_come cX6_come 3 (some .boolean)) rm_X6_come (va_Pc [.ref (ad 200), .int a1, .int a2] (PreG D (Ew D A) A ad S σ)) (QG D A ad S (some (.int r.2)) r.1) 0 0 A := by
  refine y_met (by decide) (Nat.le_of_ble_eq_true rfl) (fun p e s m below meth c ls Z hS hl => ?_)
  have hx := Z.1
  have hb := Z.2.1
  have hown := Z.2.2.2.2.2.1
  have hts := Z.2.2.2.2.2.2.1
  unfold f_X6_come at h
  refine lv_iload_n hx hb dX6_come_0 rfl (lv_at hl 1 rfl) ?_
  refine lv_iconst (v := (0 : Int32)) hx hb dX6_come_1 (by decide) ?_
  refine lv_bipush (v := (7 : Int32)) hx hb dX6_come_2 (by decide) ?_
  refine h_ci hS h (fun z hz => h_rS (rest := []) Z hS v_X6_161 (w_X6_in hz) rfl rfl ⟨by decide, by decide⟩ rfl hl.1 rfl (Nat.le_of_ble_eq_true rfl) (Nat.zero_le _) (Nat.zero_le _) dX6_come_4) (fun x1 H locs hS h => ?_)
  refine lv_if_eq (tgt := 21) hx hb dX6_come_7 (by decide) (fun c2 => ?_) (fun c2 => ?_)
  · have h := if_t h c2
    refine lv_iconst (v := (0 : Int32)) hx hb dX6_come_21 (by decide) ?_
    exact h_zretm Z hS dX6_come_22 h
  · have h := if_f h c2
    refine lv_iload_n hx hb dX6_come_10 rfl (lv_at hl 2 rfl) ?_
    refine lv_iconst (v := (0 : Int32)) hx hb dX6_come_11 (by decide) ?_
    refine lv_sipush (v := (9999 : Int32)) hx hb dX6_come_12 (by decide) ?_
    refine h_ci hS h (fun z hz => h_rS (rest := []) Z hS v_X6_161 (w_X6_in hz) rfl rfl ⟨by decide, by decide⟩ rfl hl.1 rfl (Nat.le_of_ble_eq_true rfl) (Nat.zero_le _) (Nat.zero_le _) dX6_come_15) (fun x3 H locs hS h => ?_)
    refine lv_if_ne (tgt := 23) hx hb dX6_come_18 (by decide) (fun c4 => ?_) (fun c4 => ?_)
    · have h := if_f h c4
      refine lv_aload_n hx hb dX6_come_23 rfl (lv_at hl 0 rfl) ?_
      refine h_getC (n := 39) (j := 239) (sh := (1, 8)) Z hS cls_14 hi0 (by decide) rfl rfl rfl fl_X6_95_14 dX6_come_24 (fun hc5 => ?_)
      refine lv_iload_n hx hb dX6_come_27 rfl (lv_at hl 1 rfl) ?_
      refine lv_iload_n hx hb dX6_come_28 rfl (lv_at hl 2 rfl) ?_
      refine h_iast Z hS hc5 dX6_come_29 h (fun σ6 H locs hS h => ?_)
      refine lv_iconst (v := (1 : Int32)) hx hb dX6_come_30 (by decide) ?_
      exact h_zretm Z hS dX6_come_31 h
    · have h := if_t h c4
      refine lv_iconst (v := (0 : Int32)) hx hb dX6_come_21 (by decide) ?_
      exact h_zretm Z hS dX6_come_22 h
end
theorem dX6_change_0 : decode cX6_change 0 = .ok (.iconst 0, 1) := by decide +kernel
theorem dX6_change_1 : decode cX6_change 1 = .ok (.istore_n 2, 1) := by decide +kernel
theorem dX6_change_2 : decode cX6_change 2 = .ok (.iload_n 2, 1) := by decide +kernel
theorem dX6_change_3 : decode cX6_change 3 = .ok (.bipush 8, 2) := by decide +kernel
theorem dX6_change_5 : decode cX6_change 5 = .ok (.if_icmp .ge 108, 3) := by decide +kernel
theorem dX6_change_8 : decode cX6_change 8 = .ok (.aload_n 0, 1) := by decide +kernel
theorem dX6_change_9 : decode cX6_change 9 = .ok (.getfield 37, 3) := by decide +kernel
theorem dX6_change_12 : decode cX6_change 12 = .ok (.bipush 8, 2) := by decide +kernel
theorem dX6_change_14 : decode cX6_change 14 = .ok (.iload_n 1, 1) := by decide +kernel
theorem dX6_change_15 : decode cX6_change 15 = .ok (.imul, 1) := by decide +kernel
theorem dX6_change_16 : decode cX6_change 16 = .ok (.iload_n 2, 1) := by decide +kernel
theorem dX6_change_17 : decode cX6_change 17 = .ok (.iadd, 1) := by decide +kernel
theorem dX6_change_18 : decode cX6_change 18 = .ok (.iaload, 1) := by decide +kernel
theorem dX6_change_19 : decode cX6_change 19 = .ok (.istore_n 3, 1) := by decide +kernel
theorem dX6_change_20 : decode cX6_change 20 = .ok (.aload_n 0, 1) := by decide +kernel
theorem dX6_change_21 : decode cX6_change 21 = .ok (.getfield 37, 3) := by decide +kernel
theorem dX6_change_24 : decode cX6_change 24 = .ok (.bipush 8, 2) := by decide +kernel
theorem dX6_change_26 : decode cX6_change 26 = .ok (.iload_n 1, 1) := by decide +kernel
theorem dX6_change_27 : decode cX6_change 27 = .ok (.imul, 1) := by decide +kernel
theorem dX6_change_28 : decode cX6_change 28 = .ok (.iload_n 2, 1) := by decide +kernel
theorem dX6_change_29 : decode cX6_change 29 = .ok (.iadd, 1) := by decide +kernel
theorem dX6_change_30 : decode cX6_change 30 = .ok (.iconst 0, 1) := by decide +kernel
theorem dX6_change_31 : decode cX6_change 31 = .ok (.iastore, 1) := by decide +kernel
theorem dX6_change_32 : decode cX6_change 32 = .ok (.iconst 0, 1) := by decide +kernel
theorem dX6_change_33 : decode cX6_change 33 = .ok (.istore 4, 2) := by decide +kernel
theorem dX6_change_35 : decode cX6_change 35 = .ok (.iload 4, 2) := by decide +kernel
theorem dX6_change_37 : decode cX6_change 37 = .ok (.aload_n 0, 1) := by decide +kernel
theorem dX6_change_38 : decode cX6_change 38 = .ok (.getfield 19, 3) := by decide +kernel
theorem dX6_change_41 : decode cX6_change 41 = .ok (.iload_n 1, 1) := by decide +kernel
theorem dX6_change_42 : decode cX6_change 42 = .ok (.iaload, 1) := by decide +kernel
theorem dX6_change_43 : decode cX6_change 43 = .ok (.if_icmp .ge 49, 3) := by decide +kernel
theorem dX6_change_46 : decode cX6_change 46 = .ok (.bipush 8, 2) := by decide +kernel
theorem dX6_change_48 : decode cX6_change 48 = .ok (.bipush 10, 2) := by decide +kernel
theorem dX6_change_50 : decode cX6_change 50 = .ok (.iload_n 1, 1) := by decide +kernel
theorem dX6_change_51 : decode cX6_change 51 = .ok (.imul, 1) := by decide +kernel
theorem dX6_change_52 : decode cX6_change 52 = .ok (.iload 4, 2) := by decide +kernel
theorem dX6_change_54 : decode cX6_change 54 = .ok (.iadd, 1) := by decide +kernel
theorem dX6_change_55 : decode cX6_change 55 = .ok (.imul, 1) := by decide +kernel
theorem dX6_change_56 : decode cX6_change 56 = .ok (.iload_n 2, 1) := by decide +kernel
theorem dX6_change_57 : decode cX6_change 57 = .ok (.iadd, 1) := by decide +kernel
theorem dX6_change_58 : decode cX6_change 58 = .ok (.istore 5, 2) := by decide +kernel
theorem dX6_change_60 : decode cX6_change 60 = .ok (.iload_n 3, 1) := by decide +kernel
theorem dX6_change_61 : decode cX6_change 61 = .ok (.aload_n 0, 1) := by decide +kernel
theorem dX6_change_62 : decode cX6_change 62 = .ok (.getfield 31, 3) := by decide +kernel
theorem dX6_change_65 : decode cX6_change 65 = .ok (.iload 5, 2) := by decide +kernel
theorem dX6_change_67 : decode cX6_change 67 = .ok (.iaload, 1) := by decide +kernel
theorem dX6_change_68 : decode cX6_change 68 = .ok (.iadd, 1) := by decide +kernel
theorem dX6_change_69 : decode cX6_change 69 = .ok (.istore_n 3, 1) := by decide +kernel
theorem dX6_change_70 : decode cX6_change 70 = .ok (.aload_n 0, 1) := by decide +kernel
theorem dX6_change_71 : decode cX6_change 71 = .ok (.getfield 31, 3) := by decide +kernel
theorem dX6_change_74 : decode cX6_change 74 = .ok (.iload 5, 2) := by decide +kernel
theorem dX6_change_76 : decode cX6_change 76 = .ok (.iconst 0, 1) := by decide +kernel
theorem dX6_change_77 : decode cX6_change 77 = .ok (.iastore, 1) := by decide +kernel
theorem dX6_change_78 : decode cX6_change 78 = .ok (.aload_n 0, 1) := by decide +kernel
theorem dX6_change_79 : decode cX6_change 79 = .ok (.getfield 34, 3) := by decide +kernel
theorem dX6_change_82 : decode cX6_change 82 = .ok (.iload 5, 2) := by decide +kernel
theorem dX6_change_84 : decode cX6_change 84 = .ok (.iconst 0, 1) := by decide +kernel
theorem dX6_change_85 : decode cX6_change 85 = .ok (.iastore, 1) := by decide +kernel
theorem dX6_change_86 : decode cX6_change 86 = .ok (.iinc 4 1, 3) := by decide +kernel
theorem dX6_change_89 : decode cX6_change 89 = .ok (.goto (-54), 3) := by decide +kernel
theorem dX6_change_92 : decode cX6_change 92 = .ok (.aload_n 0, 1) := by decide +kernel
theorem dX6_change_93 : decode cX6_change 93 = .ok (.getfield 108, 3) := by decide +kernel
theorem dX6_change_96 : decode cX6_change 96 = .ok (.bipush 6, 2) := by decide +kernel
theorem dX6_change_98 : decode cX6_change 98 = .ok (.iload_n 2, 1) := by decide +kernel
theorem dX6_change_99 : decode cX6_change 99 = .ok (.imul, 1) := by decide +kernel
theorem dX6_change_100 : decode cX6_change 100 = .ok (.iconst 3, 1) := by decide +kernel
theorem dX6_change_101 : decode cX6_change 101 = .ok (.iadd, 1) := by decide +kernel
theorem dX6_change_102 : decode cX6_change 102 = .ok (.dup2, 1) := by decide +kernel
theorem dX6_change_103 : decode cX6_change 103 = .ok (.iaload, 1) := by decide +kernel
theorem dX6_change_104 : decode cX6_change 104 = .ok (.iload_n 3, 1) := by decide +kernel
theorem dX6_change_105 : decode cX6_change 105 = .ok (.iadd, 1) := by decide +kernel
theorem dX6_change_106 : decode cX6_change 106 = .ok (.iastore, 1) := by decide +kernel
theorem dX6_change_107 : decode cX6_change 107 = .ok (.iinc 2 1, 3) := by decide +kernel
theorem dX6_change_110 : decode cX6_change 110 = .ok (.goto (-108), 3) := by decide +kernel
theorem dX6_change_113 : decode cX6_change 113 = .ok (.iconst 0, 1) := by decide +kernel
theorem dX6_change_114 : decode cX6_change 114 = .ok (.istore_n 2, 1) := by decide +kernel
theorem dX6_change_115 : decode cX6_change 115 = .ok (.iload_n 2, 1) := by decide +kernel
theorem dX6_change_116 : decode cX6_change 116 = .ok (.aload_n 0, 1) := by decide +kernel
theorem dX6_change_117 : decode cX6_change 117 = .ok (.getfield 19, 3) := by decide +kernel
theorem dX6_change_120 : decode cX6_change 120 = .ok (.iload_n 1, 1) := by decide +kernel
theorem dX6_change_121 : decode cX6_change 121 = .ok (.iaload, 1) := by decide +kernel
theorem dX6_change_122 : decode cX6_change 122 = .ok (.if_icmp .ge 31, 3) := by decide +kernel
theorem dX6_change_125 : decode cX6_change 125 = .ok (.aload_n 0, 1) := by decide +kernel
theorem dX6_change_126 : decode cX6_change 126 = .ok (.getfield 22, 3) := by decide +kernel
theorem dX6_change_129 : decode cX6_change 129 = .ok (.bipush 10, 2) := by decide +kernel
theorem dX6_change_131 : decode cX6_change 131 = .ok (.iload_n 1, 1) := by decide +kernel
theorem dX6_change_132 : decode cX6_change 132 = .ok (.imul, 1) := by decide +kernel
theorem dX6_change_133 : decode cX6_change 133 = .ok (.iload_n 2, 1) := by decide +kernel
theorem dX6_change_134 : decode cX6_change 134 = .ok (.iadd, 1) := by decide +kernel
theorem dX6_change_135 : decode cX6_change 135 = .ok (.aload_n 0, 1) := by decide +kernel
theorem dX6_change_136 : decode cX6_change 136 = .ok (.getfield 25, 3) := by decide +kernel
theorem dX6_change_139 : decode cX6_change 139 = .ok (.bipush 10, 2) := by decide +kernel
theorem dX6_change_141 : decode cX6_change 141 = .ok (.iload_n 1, 1) := by decide +kernel
theorem dX6_change_142 : decode cX6_change 142 = .ok (.imul, 1) := by decide +kernel
theorem dX6_change_143 : decode cX6_change 143 = .ok (.iload_n 2, 1) := by decide +kernel
theorem dX6_change_144 : decode cX6_change 144 = .ok (.iadd, 1) := by decide +kernel
theorem dX6_change_145 : decode cX6_change 145 = .ok (.iaload, 1) := by decide +kernel
theorem dX6_change_146 : decode cX6_change 146 = .ok (.iastore, 1) := by decide +kernel
theorem dX6_change_147 : decode cX6_change 147 = .ok (.iinc 2 1, 3) := by decide +kernel
theorem dX6_change_150 : decode cX6_change 150 = .ok (.goto (-35), 3) := by decide +kernel
theorem dX6_change_153 : decode cX6_change 153 = .ok (.aload_n 0, 1) := by decide +kernel
theorem dX6_change_154 : decode cX6_change 154 = .ok (.getfield 52, 3) := by decide +kernel
theorem dX6_change_157 : decode cX6_change 157 = .ok (.iload_n 1, 1) := by decide +kernel
theorem dX6_change_158 : decode cX6_change 158 = .ok (.iconst 0, 1) := by decide +kernel
theorem dX6_change_159 : decode cX6_change 159 = .ok (.iastore, 1) := by decide +kernel
theorem dX6_change_160 : decode cX6_change 160 = .ok (.aload_n 0, 1) := by decide +kernel
theorem dX6_change_161 : decode cX6_change 161 = .ok (.getfield 55, 3) := by decide +kernel
theorem dX6_change_164 : decode cX6_change 164 = .ok (.iload_n 1, 1) := by decide +kernel
theorem dX6_change_165 : decode cX6_change 165 = .ok (.iconst 0, 1) := by decide +kernel
theorem dX6_change_166 : decode cX6_change 166 = .ok (.iastore, 1) := by decide +kernel
theorem dX6_change_167 : decode cX6_change 167 = .ok (.return_, 1) := by decide +kernel
abbrev rm_X6_change : Room := k2_rm 0 0
section
variable {p : Program} {l : Launch} {e : Env} {s : State} {m : MethodId} {args : Array Value} {below : List Frame} {meth : Method} {c : Code} {D : gD} {A : Nat → Prop} {ad : Nat → Nat} {S : Nat → Nat × Nat} {σ : Mem}
set_option maxRecDepth 100000 in
set_option maxHeartbeats 4000000 in
theorem w_X6_change_L35 (Z : Cz D (Ew D A) A cX6_change 6 none RX6 p s m args meth c) {u1 : Int32} {u2 : Int32} (hu0 : S 200 = (24, 0)) {r : Mem} {k92 : Mem → Int32 → Option Mem}
    (hk92 : ∀ (σ : Mem) (w3 : Int32) (H : Heap) (locs : List Loc) (ls : Array Slot), St D A ad S σ s.heap H locs → lv_has ls 6 [(0, .ref (ad 200)), (1, .int u1), (2, .int u2), (3, .int w3)] → k92 σ w3 = some r → W p l e rm_X6_change s m args below meth c H locs 0 0 (MQ below (QG D A ad S none r) args s 0 0 A) (F0 m 92 ls [])) :
    ∀ (n : Nat) (σ : Mem) (v3 : Int32) (v4 : Int32) (H : Heap) (locs : List Loc) (ls : Array Slot), St D A ad S σ s.heap H locs → lv_has ls 6 [(0, .ref (ad 200)), (1, .int u1), (2, .int u2), (3, .int v3), (4, .int v4)] → f_X6_change_L35 k92 u1 u2 n σ v3 v4 = some r → W p l e rm_X6_change s m args below meth c H locs 0 0 (MQ below (QG D A ad S none r) args s 0 0 A) (F0 m 35 ls []) := by
  have hx := Z.1
  have hb := Z.2.1
  have hown := Z.2.2.2.2.2.1
  have hts := Z.2.2.2.2.2.2.1
  intro n
  induction n with
  | zero => intro σ v3 v4 H locs ls hS hl h; cases h
  | succ n ih =>
    intro σ v3 v4 H locs ls hS hl h
    unfold f_X6_change_L35 at h
    refine lv_iload hx hb dX6_change_35 (lv_at hl 4 rfl) ?_
    refine lv_aload_n hx hb dX6_change_37 rfl (lv_at hl 0 rfl) ?_
    refine h_getC (n := 6) (j := 206) (sh := (1, 9)) Z hS cls_14 hu0 (by decide) rfl rfl rfl fl_X6_19_14 dX6_change_38 (fun hc6 => ?_)
    refine lv_iload_n hx hb dX6_change_41 rfl (lv_at hl 1 rfl) ?_
    refine h_iald Z hS hc6 dX6_change_42 h (fun x7 h => ?_)
    refine lv_icmp_ge (tgt := 92) hx hb dX6_change_43 (by decide) (fun c8 => ?_) (fun c8 => ?_)
    · have h := if_t h c8
      exact hk92 _ _ _ _ _ hS (lv_sub hl [0, 1, 2, 3] rfl) h
    · have h := if_f h c8
      refine lv_bipush (v := (8 : Int32)) hx hb dX6_change_46 (by decide) ?_
      refine lv_bipush (v := (10 : Int32)) hx hb dX6_change_48 (by decide) ?_
      refine lv_iload_n hx hb dX6_change_50 rfl (lv_at hl 1 rfl) ?_
      refine lv_imul hx hb dX6_change_51 ?_
      refine lv_iload hx hb dX6_change_52 (lv_at hl 4 rfl) ?_
      refine lv_iadd hx hb dX6_change_54 ?_
      refine lv_imul hx hb dX6_change_55 ?_
      refine lv_iload_n hx hb dX6_change_56 rfl (lv_at hl 2 rfl) ?_
      refine lv_iadd hx hb dX6_change_57 ?_
      refine h_leti h (fun x9 h => ?_)
      refine lv_istore (lv' := [(5, .int x9), (0, .ref (ad 200)), (1, .int u1), (2, .int u2), (3, .int v3), (4, .int v4)]) hx hb dX6_change_58 hl (by decide) rfl (fun ls hl => ?_)
      refine lv_iload_n hx hb dX6_change_60 rfl (lv_at hl 4 rfl) ?_
      refine lv_aload_n hx hb dX6_change_61 rfl (lv_at hl 1 rfl) ?_
      refine h_getC (n := 10) (j := 210) (sh := (1, 720)) Z hS cls_14 hu0 (by decide) rfl rfl rfl fl_X6_31_14 dX6_change_62 (fun hc10 => ?_)
      refine lv_iload hx hb dX6_change_65 (lv_at hl 0 rfl) ?_
      refine h_iald Z hS hc10 dX6_change_67 h (fun x11 h => ?_)
      refine lv_iadd hx hb dX6_change_68 ?_
      refine h_leti h (fun x12 h => ?_)
      refine lv_istore_n (lv' := [(3, .int x12), (5, .int x9), (0, .ref (ad 200)), (1, .int u1), (2, .int u2), (4, .int v4)]) hx hb dX6_change_69 rfl hl (by decide) rfl (fun ls hl => ?_)
      refine lv_aload_n hx hb dX6_change_70 rfl (lv_at hl 2 rfl) ?_
      refine h_getC (n := 10) (j := 210) (sh := (1, 720)) Z hS cls_14 hu0 (by decide) rfl rfl rfl fl_X6_31_14 dX6_change_71 (fun hc13 => ?_)
      refine lv_iload hx hb dX6_change_74 (lv_at hl 1 rfl) ?_
      refine lv_iconst (v := (0 : Int32)) hx hb dX6_change_76 (by decide) ?_
      refine h_iast Z hS hc13 dX6_change_77 h (fun σ14 H locs hS h => ?_)
      refine lv_aload_n hx hb dX6_change_78 rfl (lv_at hl 2 rfl) ?_
      refine h_getC (n := 11) (j := 211) (sh := (1, 720)) Z hS cls_14 hu0 (by decide) rfl rfl rfl fl_X6_34_14 dX6_change_79 (fun hc15 => ?_)
      refine lv_iload hx hb dX6_change_82 (lv_at hl 1 rfl) ?_
      refine lv_iconst (v := (0 : Int32)) hx hb dX6_change_84 (by decide) ?_
      refine h_iast Z hS hc15 dX6_change_85 h (fun σ16 H locs hS h => ?_)
      refine lv_iinc (v := (v4 + (1 : Int32))) (lv' := [(4, .int (v4 + (1 : Int32))), (3, .int x12), (5, .int x9), (0, .ref (ad 200)), (1, .int u1), (2, .int u2)]) hx hb dX6_change_86 hl (k := 5) rfl rfl (by decide) rfl (fun ls hl => ?_)
      refine lv_goto (tgt := 35) hx hb dX6_change_89 (by decide) ?_
      exact ih _ _ _ _ _ _ hS (lv_sub hl [3, 4, 5, 1, 0] rfl) h
set_option maxRecDepth 100000 in
set_option maxHeartbeats 4000000 in
theorem w_X6_change_L2 (Z : Cz D (Ew D A) A cX6_change 6 none RX6 p s m args meth c) {u1 : Int32} (hu0 : S 200 = (24, 0)) {r : Mem} {k113 : Mem → Option Mem}
    (hk113 : ∀ (σ : Mem)  (H : Heap) (locs : List Loc) (ls : Array Slot), St D A ad S σ s.heap H locs → lv_has ls 6 [(0, .ref (ad 200)), (1, .int u1)] → k113 σ = some r → W p l e rm_X6_change s m args below meth c H locs 0 0 (MQ below (QG D A ad S none r) args s 0 0 A) (F0 m 113 ls [])) :
    ∀ (n : Nat) (σ : Mem) (v2 : Int32) (H : Heap) (locs : List Loc) (ls : Array Slot), St D A ad S σ s.heap H locs → lv_has ls 6 [(0, .ref (ad 200)), (1, .int u1), (2, .int v2)] → f_X6_change_L2 k113 u1 n σ v2 = some r → W p l e rm_X6_change s m args below meth c H locs 0 0 (MQ below (QG D A ad S none r) args s 0 0 A) (F0 m 2 ls []) := by
  have hx := Z.1
  have hb := Z.2.1
  have hown := Z.2.2.2.2.2.1
  have hts := Z.2.2.2.2.2.2.1
  intro n
  induction n with
  | zero => intro σ v2 H locs ls hS hl h; cases h
  | succ n ih =>
    intro σ v2 H locs ls hS hl h
    unfold f_X6_change_L2 at h
    refine lv_iload_n hx hb dX6_change_2 rfl (lv_at hl 2 rfl) ?_
    refine lv_bipush (v := (8 : Int32)) hx hb dX6_change_3 (by decide) ?_
    refine lv_icmp_ge (tgt := 113) hx hb dX6_change_5 (by decide) (fun c1 => ?_) (fun c1 => ?_)
    · have h := if_t h c1
      exact hk113 _ _ _ _ hS (lv_sub hl [0, 1] rfl) h
    · have h := if_f h c1
      refine lv_aload_n hx hb dX6_change_8 rfl (lv_at hl 0 rfl) ?_
      refine h_getC (n := 12) (j := 212) (sh := (1, 72)) Z hS cls_14 hu0 (by decide) rfl rfl rfl fl_X6_37_14 dX6_change_9 (fun hc2 => ?_)
      refine lv_bipush (v := (8 : Int32)) hx hb dX6_change_12 (by decide) ?_
      refine lv_iload_n hx hb dX6_change_14 rfl (lv_at hl 1 rfl) ?_
      refine lv_imul hx hb dX6_change_15 ?_
      refine lv_iload_n hx hb dX6_change_16 rfl (lv_at hl 2 rfl) ?_
      refine lv_iadd hx hb dX6_change_17 ?_
      refine h_iald Z hS hc2 dX6_change_18 h (fun x3 h => ?_)
      refine lv_istore_n (lv' := [(3, .int x3), (0, .ref (ad 200)), (1, .int u1), (2, .int v2)]) hx hb dX6_change_19 rfl hl (by decide) rfl (fun ls hl => ?_)
      refine lv_aload_n hx hb dX6_change_20 rfl (lv_at hl 1 rfl) ?_
      refine h_getC (n := 12) (j := 212) (sh := (1, 72)) Z hS cls_14 hu0 (by decide) rfl rfl rfl fl_X6_37_14 dX6_change_21 (fun hc4 => ?_)
      refine lv_bipush (v := (8 : Int32)) hx hb dX6_change_24 (by decide) ?_
      refine lv_iload_n hx hb dX6_change_26 rfl (lv_at hl 2 rfl) ?_
      refine lv_imul hx hb dX6_change_27 ?_
      refine lv_iload_n hx hb dX6_change_28 rfl (lv_at hl 3 rfl) ?_
      refine lv_iadd hx hb dX6_change_29 ?_
      refine lv_iconst (v := (0 : Int32)) hx hb dX6_change_30 (by decide) ?_
      refine h_iast Z hS hc4 dX6_change_31 h (fun σ5 H locs hS h => ?_)
      refine lv_iconst (v := (0 : Int32)) hx hb dX6_change_32 (by decide) ?_
      refine lv_istore (lv' := [(4, .int (0 : Int32)), (3, .int x3), (0, .ref (ad 200)), (1, .int u1), (2, .int v2)]) hx hb dX6_change_33 hl (by decide) rfl (fun ls hl => ?_)
      refine w_X6_change_L35 Z hu0 (fun σ17 x18 H locs ls hS hl h => ?_) FU _ _ _ _ _ _ hS (lv_sub hl [2, 3, 4, 1, 0] rfl) h
      refine lv_aload_n hx hb dX6_change_92 rfl (lv_at hl 0 rfl) ?_
      refine h_getC (n := 43) (j := 243) (sh := (1, 48)) Z hS cls_14 hu0 (by decide) rfl rfl rfl fl_X6_108_14 dX6_change_93 (fun hc19 => ?_)
      refine lv_bipush (v := (6 : Int32)) hx hb dX6_change_96 (by decide) ?_
      refine lv_iload_n hx hb dX6_change_98 rfl (lv_at hl 2 rfl) ?_
      refine lv_imul hx hb dX6_change_99 ?_
      refine lv_iconst (v := (3 : Int32)) hx hb dX6_change_100 (by decide) ?_
      refine lv_iadd hx hb dX6_change_101 ?_
      refine lv_dup2_11 hx hb dX6_change_102 rfl rfl ?_
      refine h_iald Z hS hc19 dX6_change_103 h (fun x20 h => ?_)
      refine lv_iload_n hx hb dX6_change_104 rfl (lv_at hl 3 rfl) ?_
      refine lv_iadd hx hb dX6_change_105 ?_
      refine h_iast Z hS hc19 dX6_change_106 h (fun σ21 H locs hS h => ?_)
      refine lv_iinc (v := (v2 + (1 : Int32))) (lv' := [(2, .int (v2 + (1 : Int32))), (0, .ref (ad 200)), (1, .int u1), (3, .int x18)]) hx hb dX6_change_107 hl (k := 2) rfl rfl (by decide) rfl (fun ls hl => ?_)
      refine lv_goto (tgt := 2) hx hb dX6_change_110 (by decide) ?_
      exact ih _ _ _ _ _ hS (lv_sub hl [1, 2, 0] rfl) h
set_option maxRecDepth 100000 in
set_option maxHeartbeats 4000000 in
theorem w_X6_change_L115 (Z : Cz D (Ew D A) A cX6_change 6 none RX6 p s m args meth c) {u1 : Int32} (hu0 : S 200 = (24, 0)) {r : Mem} {k153 : Mem → Option Mem}
    (hk153 : ∀ (σ : Mem)  (H : Heap) (locs : List Loc) (ls : Array Slot), St D A ad S σ s.heap H locs → lv_has ls 6 [(0, .ref (ad 200)), (1, .int u1)] → k153 σ = some r → W p l e rm_X6_change s m args below meth c H locs 0 0 (MQ below (QG D A ad S none r) args s 0 0 A) (F0 m 153 ls [])) :
    ∀ (n : Nat) (σ : Mem) (v2 : Int32) (H : Heap) (locs : List Loc) (ls : Array Slot), St D A ad S σ s.heap H locs → lv_has ls 6 [(0, .ref (ad 200)), (1, .int u1), (2, .int v2)] → f_X6_change_L115 k153 u1 n σ v2 = some r → W p l e rm_X6_change s m args below meth c H locs 0 0 (MQ below (QG D A ad S none r) args s 0 0 A) (F0 m 115 ls []) := by
  have hx := Z.1
  have hb := Z.2.1
  have hown := Z.2.2.2.2.2.1
  have hts := Z.2.2.2.2.2.2.1
  intro n
  induction n with
  | zero => intro σ v2 H locs ls hS hl h; cases h
  | succ n ih =>
    intro σ v2 H locs ls hS hl h
    unfold f_X6_change_L115 at h
    refine lv_iload_n hx hb dX6_change_115 rfl (lv_at hl 2 rfl) ?_
    refine lv_aload_n hx hb dX6_change_116 rfl (lv_at hl 0 rfl) ?_
    refine h_getC (n := 6) (j := 206) (sh := (1, 9)) Z hS cls_14 hu0 (by decide) rfl rfl rfl fl_X6_19_14 dX6_change_117 (fun hc23 => ?_)
    refine lv_iload_n hx hb dX6_change_120 rfl (lv_at hl 1 rfl) ?_
    refine h_iald Z hS hc23 dX6_change_121 h (fun x24 h => ?_)
    refine lv_icmp_ge (tgt := 153) hx hb dX6_change_122 (by decide) (fun c25 => ?_) (fun c25 => ?_)
    · have h := if_t h c25
      exact hk153 _ _ _ _ hS (lv_sub hl [0, 1] rfl) h
    · have h := if_f h c25
      refine lv_aload_n hx hb dX6_change_125 rfl (lv_at hl 0 rfl) ?_
      refine h_getC (n := 7) (j := 207) (sh := (1, 90)) Z hS cls_14 hu0 (by decide) rfl rfl rfl fl_X6_22_14 dX6_change_126 (fun hc26 => ?_)
      refine lv_bipush (v := (10 : Int32)) hx hb dX6_change_129 (by decide) ?_
      refine lv_iload_n hx hb dX6_change_131 rfl (lv_at hl 1 rfl) ?_
      refine lv_imul hx hb dX6_change_132 ?_
      refine lv_iload_n hx hb dX6_change_133 rfl (lv_at hl 2 rfl) ?_
      refine lv_iadd hx hb dX6_change_134 ?_
      refine lv_aload_n hx hb dX6_change_135 rfl (lv_at hl 0 rfl) ?_
      refine h_getC (n := 8) (j := 208) (sh := (1, 90)) Z hS cls_14 hu0 (by decide) rfl rfl rfl fl_X6_25_14 dX6_change_136 (fun hc27 => ?_)
      refine lv_bipush (v := (10 : Int32)) hx hb dX6_change_139 (by decide) ?_
      refine lv_iload_n hx hb dX6_change_141 rfl (lv_at hl 1 rfl) ?_
      refine lv_imul hx hb dX6_change_142 ?_
      refine lv_iload_n hx hb dX6_change_143 rfl (lv_at hl 2 rfl) ?_
      refine lv_iadd hx hb dX6_change_144 ?_
      refine h_iald Z hS hc27 dX6_change_145 h (fun x28 h => ?_)
      refine h_iast Z hS hc26 dX6_change_146 h (fun σ29 H locs hS h => ?_)
      refine lv_iinc (v := (v2 + (1 : Int32))) (lv' := [(2, .int (v2 + (1 : Int32))), (0, .ref (ad 200)), (1, .int u1)]) hx hb dX6_change_147 hl (k := 2) rfl rfl (by decide) rfl (fun ls hl => ?_)
      refine lv_goto (tgt := 115) hx hb dX6_change_150 (by decide) ?_
      exact ih _ _ _ _ _ hS (lv_sub hl [1, 2, 0] rfl) h
set_option maxRecDepth 100000 in
set_option maxHeartbeats 4000000 in
theorem w_X6_change {a1 : Int32} (hi0 : S 200 = (24, 0)) {r : Mem} (h : f_X6_change σ a1 = some r) : Met l yX6_change (ws_ yX6_change cX6_change 6 none) rm_X6_change (va_Pc [.ref (ad 200), .int a1] (PreG D (Ew D A) A ad S σ)) (QG D A ad S none r) 0 0 A := by
  refine y_met (by decide) (Nat.le_of_ble_eq_true rfl) (fun p e s m below meth c ls Z hS hl => ?_)
  have hx := Z.1
  have hb := Z.2.1
  have hown := Z.2.2.2.2.2.1
  have hts := Z.2.2.2.2.2.2.1
  unfold f_X6_change at h
  refine lv_iconst (v := (0 : Int32)) hx hb dX6_change_0 (by decide) ?_
  refine lv_istore_n (lv' := [(2, .int (0 : Int32)), (0, .ref (ad 200)), (1, .int a1)]) hx hb dX6_change_1 rfl hl (by decide) rfl (fun ls hl => ?_)
  refine w_X6_change_L2 Z hi0 (fun σ22 H locs ls hS hl h => ?_) FU _ _ _ _ _ hS (lv_sub hl [1, 2, 0] rfl) h
  refine lv_iconst (v := (0 : Int32)) hx hb dX6_change_113 (by decide) ?_
  refine lv_istore_n (lv' := [(2, .int (0 : Int32)), (0, .ref (ad 200)), (1, .int a1)]) hx hb dX6_change_114 rfl hl (by decide) rfl (fun ls hl => ?_)
  refine w_X6_change_L115 Z hi0 (fun σ30 H locs ls hS hl h => ?_) FU _ _ _ _ _ hS (lv_sub hl [1, 2, 0] rfl) h
  refine lv_aload_n hx hb dX6_change_153 rfl (lv_at hl 0 rfl) ?_
  refine h_getC (n := 17) (j := 217) (sh := (1, 9)) Z hS cls_14 hi0 (by decide) rfl rfl rfl fl_X6_52_14 dX6_change_154 (fun hc31 => ?_)
  refine lv_iload_n hx hb dX6_change_157 rfl (lv_at hl 1 rfl) ?_
  refine lv_iconst (v := (0 : Int32)) hx hb dX6_change_158 (by decide) ?_
  refine h_iast Z hS hc31 dX6_change_159 h (fun σ32 H locs hS h => ?_)
  refine lv_aload_n hx hb dX6_change_160 rfl (lv_at hl 0 rfl) ?_
  refine h_getC (n := 18) (j := 218) (sh := (1, 9)) Z hS cls_14 hi0 (by decide) rfl rfl rfl fl_X6_55_14 dX6_change_161 (fun hc33 => ?_)
  refine lv_iload_n hx hb dX6_change_164 rfl (lv_at hl 1 rfl) ?_
  refine lv_iconst (v := (0 : Int32)) hx hb dX6_change_165 (by decide) ?_
  refine h_iast Z hS hc33 dX6_change_166 h (fun σ34 H locs hS h => ?_)
  exact h_vret Z hS dX6_change_167 h
end
theorem dX6_decide_0 : decode cX6_decide 0 = .ok (.aload_n 0, 1) := by decide +kernel
theorem dX6_decide_1 : decode cX6_decide 1 = .ok (.getfield 49, 3) := by decide +kernel
theorem dX6_decide_4 : decode cX6_decide 4 = .ok (.iload_n 1, 1) := by decide +kernel
theorem dX6_decide_5 : decode cX6_decide 5 = .ok (.iconst 1, 1) := by decide +kernel
theorem dX6_decide_6 : decode cX6_decide 6 = .ok (.iastore, 1) := by decide +kernel
theorem dX6_decide_7 : decode cX6_decide 7 = .ok (.aload_n 0, 1) := by decide +kernel
theorem dX6_decide_8 : decode cX6_decide 8 = .ok (.getfield 58, 3) := by decide +kernel
theorem dX6_decide_11 : decode cX6_decide 11 = .ok (.iload_n 1, 1) := by decide +kernel
theorem dX6_decide_12 : decode cX6_decide 12 = .ok (.iaload, 1) := by decide +kernel
theorem dX6_decide_13 : decode cX6_decide 13 = .ok (.iconst (-1), 1) := by decide +kernel
theorem dX6_decide_14 : decode cX6_decide 14 = .ok (.if_icmp .eq 218, 3) := by decide +kernel
theorem dX6_decide_17 : decode cX6_decide 17 = .ok (.aload_n 0, 1) := by decide +kernel
theorem dX6_decide_18 : decode cX6_decide 18 = .ok (.getfield 89, 3) := by decide +kernel
theorem dX6_decide_21 : decode cX6_decide 21 = .ok (.bipush 112, 2) := by decide +kernel
theorem dX6_decide_23 : decode cX6_decide 23 = .ok (.aload_n 0, 1) := by decide +kernel
theorem dX6_decide_24 : decode cX6_decide 24 = .ok (.getfield 70, 3) := by decide +kernel
theorem dX6_decide_27 : decode cX6_decide 27 = .ok (.iload_n 1, 1) := by decide +kernel
theorem dX6_decide_28 : decode cX6_decide 28 = .ok (.baload, 1) := by decide +kernel
theorem dX6_decide_29 : decode cX6_decide 29 = .ok (.ifCond .eq 12, 3) := by decide +kernel
theorem dX6_decide_32 : decode cX6_decide 32 = .ok (.aload_n 0, 1) := by decide +kernel
theorem dX6_decide_33 : decode cX6_decide 33 = .ok (.getfield 64, 3) := by decide +kernel
theorem dX6_decide_36 : decode cX6_decide 36 = .ok (.iload_n 1, 1) := by decide +kernel
theorem dX6_decide_37 : decode cX6_decide 37 = .ok (.iaload, 1) := by decide +kernel
theorem dX6_decide_38 : decode cX6_decide 38 = .ok (.goto 4, 3) := by decide +kernel
theorem dX6_decide_41 : decode cX6_decide 41 = .ok (.iconst 0, 1) := by decide +kernel
theorem dX6_decide_42 : decode cX6_decide 42 = .ok (.iastore, 1) := by decide +kernel
theorem dX6_decide_43 : decode cX6_decide 43 = .ok (.aload_n 0, 1) := by decide +kernel
theorem dX6_decide_44 : decode cX6_decide 44 = .ok (.getfield 89, 3) := by decide +kernel
theorem dX6_decide_47 : decode cX6_decide 47 = .ok (.bipush 104, 2) := by decide +kernel
theorem dX6_decide_49 : decode cX6_decide 49 = .ok (.aload_n 0, 1) := by decide +kernel
theorem dX6_decide_50 : decode cX6_decide 50 = .ok (.getfield 52, 3) := by decide +kernel
theorem dX6_decide_53 : decode cX6_decide 53 = .ok (.iload_n 1, 1) := by decide +kernel
theorem dX6_decide_54 : decode cX6_decide 54 = .ok (.iaload, 1) := by decide +kernel
theorem dX6_decide_55 : decode cX6_decide 55 = .ok (.iastore, 1) := by decide +kernel
theorem dX6_decide_56 : decode cX6_decide 56 = .ok (.aload_n 0, 1) := by decide +kernel
theorem dX6_decide_57 : decode cX6_decide 57 = .ok (.getfield 89, 3) := by decide +kernel
theorem dX6_decide_60 : decode cX6_decide 60 = .ok (.bipush 111, 2) := by decide +kernel
theorem dX6_decide_62 : decode cX6_decide 62 = .ok (.aload_n 0, 1) := by decide +kernel
theorem dX6_decide_63 : decode cX6_decide 63 = .ok (.getfield 70, 3) := by decide +kernel
theorem dX6_decide_66 : decode cX6_decide 66 = .ok (.iload_n 1, 1) := by decide +kernel
theorem dX6_decide_67 : decode cX6_decide 67 = .ok (.baload, 1) := by decide +kernel
theorem dX6_decide_68 : decode cX6_decide 68 = .ok (.ifCond .eq 12, 3) := by decide +kernel
theorem dX6_decide_71 : decode cX6_decide 71 = .ok (.aload_n 0, 1) := by decide +kernel
theorem dX6_decide_72 : decode cX6_decide 72 = .ok (.getfield 67, 3) := by decide +kernel
theorem dX6_decide_75 : decode cX6_decide 75 = .ok (.iload_n 1, 1) := by decide +kernel
theorem dX6_decide_76 : decode cX6_decide 76 = .ok (.iaload, 1) := by decide +kernel
theorem dX6_decide_77 : decode cX6_decide 77 = .ok (.goto 4, 3) := by decide +kernel
theorem dX6_decide_80 : decode cX6_decide 80 = .ok (.iconst 0, 1) := by decide +kernel
theorem dX6_decide_81 : decode cX6_decide 81 = .ok (.iastore, 1) := by decide +kernel
theorem dX6_decide_82 : decode cX6_decide 82 = .ok (.aload_n 0, 1) := by decide +kernel
theorem dX6_decide_83 : decode cX6_decide 83 = .ok (.getfield 89, 3) := by decide +kernel
theorem dX6_decide_86 : decode cX6_decide 86 = .ok (.bipush 105, 2) := by decide +kernel
theorem dX6_decide_88 : decode cX6_decide 88 = .ok (.iload_n 1, 1) := by decide +kernel
theorem dX6_decide_89 : decode cX6_decide 89 = .ok (.iastore, 1) := by decide +kernel
theorem dX6_decide_90 : decode cX6_decide 90 = .ok (.aload_n 0, 1) := by decide +kernel
theorem dX6_decide_91 : decode cX6_decide 91 = .ok (.getfield 89, 3) := by decide +kernel
theorem dX6_decide_94 : decode cX6_decide 94 = .ok (.bipush 110, 2) := by decide +kernel
theorem dX6_decide_96 : decode cX6_decide 96 = .ok (.aload_n 0, 1) := by decide +kernel
theorem dX6_decide_97 : decode cX6_decide 97 = .ok (.getfield 55, 3) := by decide +kernel
theorem dX6_decide_100 : decode cX6_decide 100 = .ok (.iload_n 1, 1) := by decide +kernel
theorem dX6_decide_101 : decode cX6_decide 101 = .ok (.iaload, 1) := by decide +kernel
theorem dX6_decide_102 : decode cX6_decide 102 = .ok (.iastore, 1) := by decide +kernel
theorem dX6_decide_103 : decode cX6_decide 103 = .ok (.aload_n 0, 1) := by decide +kernel
theorem dX6_decide_104 : decode cX6_decide 104 = .ok (.getfield 89, 3) := by decide +kernel
theorem dX6_decide_107 : decode cX6_decide 107 = .ok (.bipush 107, 2) := by decide +kernel
theorem dX6_decide_109 : decode cX6_decide 109 = .ok (.aload_n 0, 1) := by decide +kernel
theorem dX6_decide_110 : decode cX6_decide 110 = .ok (.iload_n 1, 1) := by decide +kernel
theorem dX6_decide_111 : decode cX6_decide 111 = .ok (.invokevirtual 195, 3) := by decide +kernel
theorem dX6_decide_114 : decode cX6_decide 114 = .ok (.iastore, 1) := by decide +kernel
theorem dX6_decide_115 : decode cX6_decide 115 = .ok (.aload_n 0, 1) := by decide +kernel
theorem dX6_decide_116 : decode cX6_decide 116 = .ok (.aload_n 0, 1) := by decide +kernel
theorem dX6_decide_117 : decode cX6_decide 117 = .ok (.getfield 58, 3) := by decide +kernel
theorem dX6_decide_120 : decode cX6_decide 120 = .ok (.iload_n 1, 1) := by decide +kernel
theorem dX6_decide_121 : decode cX6_decide 121 = .ok (.iaload, 1) := by decide +kernel
theorem dX6_decide_122 : decode cX6_decide 122 = .ok (.bipush 99, 2) := by decide +kernel
theorem dX6_decide_124 : decode cX6_decide 124 = .ok (.invokevirtual 316, 3) := by decide +kernel
theorem dX6_decide_127 : decode cX6_decide 127 = .ok (.ifCond .eq 11, 3) := by decide +kernel
theorem dX6_decide_130 : decode cX6_decide 130 = .ok (.aload_n 0, 1) := by decide +kernel
theorem dX6_decide_131 : decode cX6_decide 131 = .ok (.iload_n 1, 1) := by decide +kernel
theorem dX6_decide_132 : decode cX6_decide 132 = .ok (.invokevirtual 322, 3) := by decide +kernel
theorem dX6_decide_135 : decode cX6_decide 135 = .ok (.goto 97, 3) := by decide +kernel
theorem dX6_decide_138 : decode cX6_decide 138 = .ok (.aload_n 0, 1) := by decide +kernel
theorem dX6_decide_139 : decode cX6_decide 139 = .ok (.aload_n 0, 1) := by decide +kernel
theorem dX6_decide_140 : decode cX6_decide 140 = .ok (.getfield 58, 3) := by decide +kernel
theorem dX6_decide_143 : decode cX6_decide 143 = .ok (.iload_n 1, 1) := by decide +kernel
theorem dX6_decide_144 : decode cX6_decide 144 = .ok (.iaload, 1) := by decide +kernel
theorem dX6_decide_145 : decode cX6_decide 145 = .ok (.bipush 119, 2) := by decide +kernel
theorem dX6_decide_147 : decode cX6_decide 147 = .ok (.invokevirtual 316, 3) := by decide +kernel
theorem dX6_decide_150 : decode cX6_decide 150 = .ok (.ifCond .eq 60, 3) := by decide +kernel
theorem dX6_decide_153 : decode cX6_decide 153 = .ok (.aload_n 0, 1) := by decide +kernel
theorem dX6_decide_154 : decode cX6_decide 154 = .ok (.getfield 117, 3) := by decide +kernel
theorem dX6_decide_157 : decode cX6_decide 157 = .ok (.iload_n 1, 1) := by decide +kernel
theorem dX6_decide_158 : decode cX6_decide 158 = .ok (.iconst 0, 1) := by decide +kernel
theorem dX6_decide_159 : decode cX6_decide 159 = .ok (.sipush 1000, 3) := by decide +kernel
theorem dX6_decide_162 : decode cX6_decide 162 = .ok (.aload_n 0, 1) := by decide +kernel
theorem dX6_decide_163 : decode cX6_decide 163 = .ok (.aload_n 0, 1) := by decide +kernel
theorem dX6_decide_164 : decode cX6_decide 164 = .ok (.getfield 58, 3) := by decide +kernel
theorem dX6_decide_167 : decode cX6_decide 167 = .ok (.iload_n 1, 1) := by decide +kernel
theorem dX6_decide_168 : decode cX6_decide 168 = .ok (.iaload, 1) := by decide +kernel
theorem dX6_decide_169 : decode cX6_decide 169 = .ok (.bipush 117, 2) := by decide +kernel
theorem dX6_decide_171 : decode cX6_decide 171 = .ok (.invokevirtual 316, 3) := by decide +kernel
theorem dX6_decide_174 : decode cX6_decide 174 = .ok (.invokestatic 325, 3) := by decide +kernel
theorem dX6_decide_177 : decode cX6_decide 177 = .ok (.invokestatic 172, 3) := by decide +kernel
theorem dX6_decide_180 : decode cX6_decide 180 = .ok (.iastore, 1) := by decide +kernel
theorem dX6_decide_181 : decode cX6_decide 181 = .ok (.aload_n 0, 1) := by decide +kernel
theorem dX6_decide_182 : decode cX6_decide 182 = .ok (.getfield 49, 3) := by decide +kernel
theorem dX6_decide_185 : decode cX6_decide 185 = .ok (.iload_n 1, 1) := by decide +kernel
theorem dX6_decide_186 : decode cX6_decide 186 = .ok (.aload_n 0, 1) := by decide +kernel
theorem dX6_decide_187 : decode cX6_decide 187 = .ok (.getfield 55, 3) := by decide +kernel
theorem dX6_decide_190 : decode cX6_decide 190 = .ok (.iload_n 1, 1) := by decide +kernel
theorem dX6_decide_191 : decode cX6_decide 191 = .ok (.iaload, 1) := by decide +kernel
theorem dX6_decide_192 : decode cX6_decide 192 = .ok (.aload_n 0, 1) := by decide +kernel
theorem dX6_decide_193 : decode cX6_decide 193 = .ok (.getfield 46, 3) := by decide +kernel
theorem dX6_decide_196 : decode cX6_decide 196 = .ok (.iload_n 1, 1) := by decide +kernel
theorem dX6_decide_197 : decode cX6_decide 197 = .ok (.iaload, 1) := by decide +kernel
theorem dX6_decide_198 : decode cX6_decide 198 = .ok (.if_icmp .lt 7, 3) := by decide +kernel
theorem dX6_decide_201 : decode cX6_decide 201 = .ok (.iconst 5, 1) := by decide +kernel
theorem dX6_decide_202 : decode cX6_decide 202 = .ok (.goto 4, 3) := by decide +kernel
theorem dX6_decide_205 : decode cX6_decide 205 = .ok (.iconst 2, 1) := by decide +kernel
theorem dX6_decide_206 : decode cX6_decide 206 = .ok (.iastore, 1) := by decide +kernel
theorem dX6_decide_207 : decode cX6_decide 207 = .ok (.goto 25, 3) := by decide +kernel
theorem dX6_decide_210 : decode cX6_decide 210 = .ok (.aload_n 0, 1) := by decide +kernel
theorem dX6_decide_211 : decode cX6_decide 211 = .ok (.aload_n 0, 1) := by decide +kernel
theorem dX6_decide_212 : decode cX6_decide 212 = .ok (.getfield 58, 3) := by decide +kernel
theorem dX6_decide_215 : decode cX6_decide 215 = .ok (.iload_n 1, 1) := by decide +kernel
theorem dX6_decide_216 : decode cX6_decide 216 = .ok (.iaload, 1) := by decide +kernel
theorem dX6_decide_217 : decode cX6_decide 217 = .ok (.bipush 114, 2) := by decide +kernel
theorem dX6_decide_219 : decode cX6_decide 219 = .ok (.invokevirtual 316, 3) := by decide +kernel
theorem dX6_decide_222 : decode cX6_decide 222 = .ok (.ifCond .eq 10, 3) := by decide +kernel
theorem dX6_decide_225 : decode cX6_decide 225 = .ok (.aload_n 0, 1) := by decide +kernel
theorem dX6_decide_226 : decode cX6_decide 226 = .ok (.getfield 49, 3) := by decide +kernel
theorem dX6_decide_229 : decode cX6_decide 229 = .ok (.iload_n 1, 1) := by decide +kernel
theorem dX6_decide_230 : decode cX6_decide 230 = .ok (.iconst 3, 1) := by decide +kernel
theorem dX6_decide_231 : decode cX6_decide 231 = .ok (.iastore, 1) := by decide +kernel
theorem dX6_decide_232 : decode cX6_decide 232 = .ok (.aload_n 0, 1) := by decide +kernel
theorem dX6_decide_233 : decode cX6_decide 233 = .ok (.getfield 74, 3) := by decide +kernel
theorem dX6_decide_236 : decode cX6_decide 236 = .ok (.iload_n 1, 1) := by decide +kernel
theorem dX6_decide_237 : decode cX6_decide 237 = .ok (.aload_n 0, 1) := by decide +kernel
theorem dX6_decide_238 : decode cX6_decide 238 = .ok (.getfield 74, 3) := by decide +kernel
theorem dX6_decide_241 : decode cX6_decide 241 = .ok (.iload_n 1, 1) := by decide +kernel
theorem dX6_decide_242 : decode cX6_decide 242 = .ok (.baload, 1) := by decide +kernel
theorem dX6_decide_243 : decode cX6_decide 243 = .ok (.ifCond .ne 13, 3) := by decide +kernel
theorem dX6_decide_246 : decode cX6_decide 246 = .ok (.aload_n 0, 1) := by decide +kernel
theorem dX6_decide_247 : decode cX6_decide 247 = .ok (.getfield 49, 3) := by decide +kernel
theorem dX6_decide_250 : decode cX6_decide 250 = .ok (.iload_n 1, 1) := by decide +kernel
theorem dX6_decide_251 : decode cX6_decide 251 = .ok (.iaload, 1) := by decide +kernel
theorem dX6_decide_252 : decode cX6_decide 252 = .ok (.iconst 1, 1) := by decide +kernel
theorem dX6_decide_253 : decode cX6_decide 253 = .ok (.if_icmp .ne 7, 3) := by decide +kernel
theorem dX6_decide_256 : decode cX6_decide 256 = .ok (.iconst 1, 1) := by decide +kernel
theorem dX6_decide_257 : decode cX6_decide 257 = .ok (.goto 4, 3) := by decide +kernel
theorem dX6_decide_260 : decode cX6_decide 260 = .ok (.iconst 0, 1) := by decide +kernel
theorem dX6_decide_261 : decode cX6_decide 261 = .ok (.bastore, 1) := by decide +kernel
theorem dX6_decide_262 : decode cX6_decide 262 = .ok (.return_, 1) := by decide +kernel
abbrev rm_X6_decide : Room := k2_rm 5 107
section
variable {p : Program} {l : Launch} {e : Env} {s : State} {m : MethodId} {args : Array Value} {below : List Frame} {meth : Method} {c : Code} {D : gD} {A : Nat → Prop} {ad : Nat → Nat} {S : Nat → Nat × Nat} {σ : Mem}
set_option maxRecDepth 100000 in
set_option maxHeartbeats 4000000 in
theorem w_X6_decide {a1 : Int32} (hi0 : S 200 = (24, 0)) {r : Mem} (h : f_X6_decide σ a1 = some r) : Met l yX6_decide (ws_ yX6_decide cX6_decide 2 none) rm_X6_decide (va_Pc [.ref (ad 200), .int a1] (PreG D (Ew D A) A ad S σ)) (QG D A ad S none r) 0 0 A := by
  refine y_met (by decide) (Nat.le_of_ble_eq_true rfl) (fun p e s m below meth c ls Z hS hl => ?_)
  have hx := Z.1
  have hb := Z.2.1
  have hown := Z.2.2.2.2.2.1
  have hts := Z.2.2.2.2.2.2.1
  unfold f_X6_decide at h
  refine lv_aload_n hx hb dX6_decide_0 rfl (lv_at hl 0 rfl) ?_
  refine h_getC (n := 16) (j := 216) (sh := (1, 9)) Z hS cls_14 hi0 (by decide) rfl rfl rfl fl_X6_49_14 dX6_decide_1 (fun hc1 => ?_)
  refine lv_iload_n hx hb dX6_decide_4 rfl (lv_at hl 1 rfl) ?_
  refine lv_iconst (v := (1 : Int32)) hx hb dX6_decide_5 (by decide) ?_
  refine h_iast Z hS hc1 dX6_decide_6 h (fun σ2 H locs hS h => ?_)
  refine lv_aload_n hx hb dX6_decide_7 rfl (lv_at hl 0 rfl) ?_
  refine h_getC (n := 19) (j := 219) (sh := (1, 9)) Z hS cls_14 hi0 (by decide) rfl rfl rfl fl_X6_58_14 dX6_decide_8 (fun hc3 => ?_)
  refine lv_iload_n hx hb dX6_decide_11 rfl (lv_at hl 1 rfl) ?_
  refine h_iald Z hS hc3 dX6_decide_12 h (fun x4 h => ?_)
  refine lv_iconst (v := (-1 : Int32)) hx hb dX6_decide_13 (by decide) ?_
  obtain ⟨σ6, hp7, h⟩ := bnd_el h
  have K7 : ∀ (H : Heap) (locs : List Loc) (ls : Array Slot), St D A ad S σ6 s.heap H locs → lv_has ls 2 [(0, .ref (ad 200)), (1, .int a1)] → W p l e rm_X6_decide s m ([.ref (ad 200), .int a1] : List Value).toArray below meth c H locs 0 0 (MQ below (QG D A ad S none r) ([.ref (ad 200), .int a1] : List Value).toArray s 0 0 A) (F0 m 232 ls []) := by
    intro H locs ls hS hl
    refine lv_aload_n hx hb dX6_decide_232 rfl (lv_at hl 0 rfl) ?_
    refine h_getC (n := 24) (j := 224) (sh := (3, 9)) Z hS cls_14 hi0 (by decide) rfl rfl rfl fl_X6_74_14 dX6_decide_233 (fun hc8 => ?_)
    refine lv_iload_n hx hb dX6_decide_236 rfl (lv_at hl 1 rfl) ?_
    refine lv_aload_n hx hb dX6_decide_237 rfl (lv_at hl 0 rfl) ?_
    refine h_getC (n := 24) (j := 224) (sh := (3, 9)) Z hS cls_14 hi0 (by decide) rfl rfl rfl fl_X6_74_14 dX6_decide_238 (fun hc9 => ?_)
    refine lv_iload_n hx hb dX6_decide_241 rfl (lv_at hl 1 rfl) ?_
    refine h_zald Z hS hc9 dX6_decide_242 h (fun x10 h => ?_)
    refine lv_if_ne (tgt := 256) hx hb dX6_decide_243 (by decide) (fun c11 => ?_) (fun c11 => ?_)
    · have h := if_f h c11
      refine lv_iconst (v := (1 : Int32)) hx hb dX6_decide_256 (by decide) ?_
      refine lv_goto (tgt := 261) hx hb dX6_decide_257 (by decide) ?_
      refine h_zast Z hS hc8 dX6_decide_261 h (fun σ17 H locs hS h => ?_)
      exact h_vret Z hS dX6_decide_262 h
    · have h := if_t h c11
      refine lv_aload_n hx hb dX6_decide_246 rfl (lv_at hl 0 rfl) ?_
      refine h_getC (n := 16) (j := 216) (sh := (1, 9)) Z hS cls_14 hi0 (by decide) rfl rfl rfl fl_X6_49_14 dX6_decide_247 (fun hc12 => ?_)
      refine lv_iload_n hx hb dX6_decide_250 rfl (lv_at hl 1 rfl) ?_
      refine h_iald Z hS hc12 dX6_decide_251 h (fun x13 h => ?_)
      refine lv_iconst (v := (1 : Int32)) hx hb dX6_decide_252 (by decide) ?_
      refine lv_icmp_ne (tgt := 260) hx hb dX6_decide_253 (by decide) (fun c14 => ?_) (fun c14 => ?_)
      · have h := if_f h c14
        refine lv_iconst (v := (0 : Int32)) hx hb dX6_decide_260 (by decide) ?_
        refine h_zast Z hS hc8 dX6_decide_261 h (fun σ16 H locs hS h => ?_)
        exact h_vret Z hS dX6_decide_262 h
      · have h := if_t h c14
        refine lv_iconst (v := (1 : Int32)) hx hb dX6_decide_256 (by decide) ?_
        refine lv_goto (tgt := 261) hx hb dX6_decide_257 (by decide) ?_
        refine h_zast Z hS hc8 dX6_decide_261 h (fun σ15 H locs hS h => ?_)
        exact h_vret Z hS dX6_decide_262 h
  clear h
  have h := hp7
  clear hp7
  refine lv_icmp_eq (tgt := 232) hx hb dX6_decide_14 (by decide) (fun c5 => ?_) (fun c5 => ?_)
  · have h := if_t h c5
    cases h
    exact K7 _ _ _ hS (lv_sub hl [0, 1] rfl)
  · have h := if_f h c5
    refine lv_aload_n hx hb dX6_decide_17 rfl (lv_at hl 0 rfl) ?_
    refine h_getC (n := 36) (j := 236) (sh := (1, 128)) Z hS cls_14 hi0 (by decide) rfl rfl rfl fl_X6_89_14 dX6_decide_18 (fun hc18 => ?_)
    refine lv_bipush (v := (112 : Int32)) hx hb dX6_decide_21 (by decide) ?_
    refine lv_aload_n hx hb dX6_decide_23 rfl (lv_at hl 0 rfl) ?_
    refine h_getC (n := 23) (j := 223) (sh := (3, 9)) Z hS cls_14 hi0 (by decide) rfl rfl rfl fl_X6_70_14 dX6_decide_24 (fun hc19 => ?_)
    refine lv_iload_n hx hb dX6_decide_27 rfl (lv_at hl 1 rfl) ?_
    refine h_zald Z hS hc19 dX6_decide_28 h (fun x20 h => ?_)
    obtain ⟨x22, hp23, h⟩ := bnd_el h
    have K23 : ∀ (H : Heap) (locs : List Loc) (ls : Array Slot), St D A ad S σ2 s.heap H locs → lv_has ls 2 [(0, .ref (ad 200)), (1, .int a1)] → W p l e rm_X6_decide s m ([.ref (ad 200), .int a1] : List Value).toArray below meth c H locs 0 0 (MQ below (QG D A ad S none r) ([.ref (ad 200), .int a1] : List Value).toArray s 0 0 A) (F0 m 42 ls [.int x22, .int (112 : Int32), .ref (ad 236)]) := by
      intro H locs ls hS hl
      refine h_iast Z hS hc18 dX6_decide_42 h (fun σ24 H locs hS h => ?_)
      refine lv_aload_n hx hb dX6_decide_43 rfl (lv_at hl 0 rfl) ?_
      refine h_getC (n := 36) (j := 236) (sh := (1, 128)) Z hS cls_14 hi0 (by decide) rfl rfl rfl fl_X6_89_14 dX6_decide_44 (fun hc25 => ?_)
      refine lv_bipush (v := (104 : Int32)) hx hb dX6_decide_47 (by decide) ?_
      refine lv_aload_n hx hb dX6_decide_49 rfl (lv_at hl 0 rfl) ?_
      refine h_getC (n := 17) (j := 217) (sh := (1, 9)) Z hS cls_14 hi0 (by decide) rfl rfl rfl fl_X6_52_14 dX6_decide_50 (fun hc26 => ?_)
      refine lv_iload_n hx hb dX6_decide_53 rfl (lv_at hl 1 rfl) ?_
      refine h_iald Z hS hc26 dX6_decide_54 h (fun x27 h => ?_)
      refine h_iast Z hS hc25 dX6_decide_55 h (fun σ28 H locs hS h => ?_)
      refine lv_aload_n hx hb dX6_decide_56 rfl (lv_at hl 0 rfl) ?_
      refine h_getC (n := 36) (j := 236) (sh := (1, 128)) Z hS cls_14 hi0 (by decide) rfl rfl rfl fl_X6_89_14 dX6_decide_57 (fun hc29 => ?_)
      refine lv_bipush (v := (111 : Int32)) hx hb dX6_decide_60 (by decide) ?_
      refine lv_aload_n hx hb dX6_decide_62 rfl (lv_at hl 0 rfl) ?_
      refine h_getC (n := 23) (j := 223) (sh := (3, 9)) Z hS cls_14 hi0 (by decide) rfl rfl rfl fl_X6_70_14 dX6_decide_63 (fun hc30 => ?_)
      refine lv_iload_n hx hb dX6_decide_66 rfl (lv_at hl 1 rfl) ?_
      refine h_zald Z hS hc30 dX6_decide_67 h (fun x31 h => ?_)
      obtain ⟨x33, hp34, h⟩ := bnd_el h
      have K34 : ∀ (H : Heap) (locs : List Loc) (ls : Array Slot), St D A ad S σ28 s.heap H locs → lv_has ls 2 [(0, .ref (ad 200)), (1, .int a1)] → W p l e rm_X6_decide s m ([.ref (ad 200), .int a1] : List Value).toArray below meth c H locs 0 0 (MQ below (QG D A ad S none r) ([.ref (ad 200), .int a1] : List Value).toArray s 0 0 A) (F0 m 81 ls [.int x33, .int (111 : Int32), .ref (ad 236)]) := by
        intro H locs ls hS hl
        refine h_iast Z hS hc29 dX6_decide_81 h (fun σ35 H locs hS h => ?_)
        refine lv_aload_n hx hb dX6_decide_82 rfl (lv_at hl 0 rfl) ?_
        refine h_getC (n := 36) (j := 236) (sh := (1, 128)) Z hS cls_14 hi0 (by decide) rfl rfl rfl fl_X6_89_14 dX6_decide_83 (fun hc36 => ?_)
        refine lv_bipush (v := (105 : Int32)) hx hb dX6_decide_86 (by decide) ?_
        refine lv_iload_n hx hb dX6_decide_88 rfl (lv_at hl 1 rfl) ?_
        refine h_iast Z hS hc36 dX6_decide_89 h (fun σ37 H locs hS h => ?_)
        refine lv_aload_n hx hb dX6_decide_90 rfl (lv_at hl 0 rfl) ?_
        refine h_getC (n := 36) (j := 236) (sh := (1, 128)) Z hS cls_14 hi0 (by decide) rfl rfl rfl fl_X6_89_14 dX6_decide_91 (fun hc38 => ?_)
        refine lv_bipush (v := (110 : Int32)) hx hb dX6_decide_94 (by decide) ?_
        refine lv_aload_n hx hb dX6_decide_96 rfl (lv_at hl 0 rfl) ?_
        refine h_getC (n := 18) (j := 218) (sh := (1, 9)) Z hS cls_14 hi0 (by decide) rfl rfl rfl fl_X6_55_14 dX6_decide_97 (fun hc39 => ?_)
        refine lv_iload_n hx hb dX6_decide_100 rfl (lv_at hl 1 rfl) ?_
        refine h_iald Z hS hc39 dX6_decide_101 h (fun x40 h => ?_)
        refine h_iast Z hS hc38 dX6_decide_102 h (fun σ41 H locs hS h => ?_)
        refine lv_aload_n hx hb dX6_decide_103 rfl (lv_at hl 0 rfl) ?_
        refine h_getC (n := 36) (j := 236) (sh := (1, 128)) Z hS cls_14 hi0 (by decide) rfl rfl rfl fl_X6_89_14 dX6_decide_104 (fun hc42 => ?_)
        refine lv_bipush (v := (107 : Int32)) hx hb dX6_decide_107 (by decide) ?_
        refine lv_aload_n hx hb dX6_decide_109 rfl (lv_at hl 0 rfl) ?_
        refine lv_iload_n hx hb dX6_decide_110 rfl (lv_at hl 1 rfl) ?_
        refine h_ci hS h (fun z hz => h_rV (rest := [.int (107 : Int32), .ref (ad 236)]) Z hS hi0 rfl v_X6_195 (w_X6_cakeOf hi0 hz) rfl rfl ⟨by decide, by decide⟩ rfl hl.1 rfl (Nat.le_of_ble_eq_true rfl) (Nat.zero_le _) (Nat.zero_le _) dX6_decide_111) (fun x43 H locs hS h => ?_)
        refine h_iast Z hS hc42 dX6_decide_114 h (fun σ44 H locs hS h => ?_)
        refine lv_aload_n hx hb dX6_decide_115 rfl (lv_at hl 0 rfl) ?_
        refine lv_aload_n hx hb dX6_decide_116 rfl (lv_at hl 0 rfl) ?_
        refine h_getC (n := 19) (j := 219) (sh := (1, 9)) Z hS cls_14 hi0 (by decide) rfl rfl rfl fl_X6_58_14 dX6_decide_117 (fun hc45 => ?_)
        refine lv_iload_n hx hb dX6_decide_120 rfl (lv_at hl 1 rfl) ?_
        refine h_iald Z hS hc45 dX6_decide_121 h (fun x46 h => ?_)
        refine lv_bipush (v := (99 : Int32)) hx hb dX6_decide_122 (by decide) ?_
        refine h_cim hS h (fun z hz => h_rV (rest := []) Z hS hi0 rfl v_X6_316 (w_X6_worthBy hi0 hz) rfl rfl ⟨by decide, by decide⟩ rfl hl.1 rfl (Nat.le_of_ble_eq_true rfl) (Nat.zero_le _) (Nat.zero_le _) dX6_decide_124) (fun σ47 x48 H locs hS h => ?_)
        refine lv_if_eq (tgt := 138) hx hb dX6_decide_127 (by decide) (fun c49 => ?_) (fun c49 => ?_)
        · have h := if_t h c49
          refine lv_aload_n hx hb dX6_decide_138 rfl (lv_at hl 0 rfl) ?_
          refine lv_aload_n hx hb dX6_decide_139 rfl (lv_at hl 0 rfl) ?_
          refine h_getC (n := 19) (j := 219) (sh := (1, 9)) Z hS cls_14 hi0 (by decide) rfl rfl rfl fl_X6_58_14 dX6_decide_140 (fun hc50 => ?_)
          refine lv_iload_n hx hb dX6_decide_143 rfl (lv_at hl 1 rfl) ?_
          refine h_iald Z hS hc50 dX6_decide_144 h (fun x51 h => ?_)
          refine lv_bipush (v := (119 : Int32)) hx hb dX6_decide_145 (by decide) ?_
          refine h_cim hS h (fun z hz => h_rV (rest := []) Z hS hi0 rfl v_X6_316 (w_X6_worthBy hi0 hz) rfl rfl ⟨by decide, by decide⟩ rfl hl.1 rfl (Nat.le_of_ble_eq_true rfl) (Nat.zero_le _) (Nat.zero_le _) dX6_decide_147) (fun σ52 x53 H locs hS h => ?_)
          refine lv_if_eq (tgt := 210) hx hb dX6_decide_150 (by decide) (fun c54 => ?_) (fun c54 => ?_)
          · have h := if_t h c54
            refine lv_aload_n hx hb dX6_decide_210 rfl (lv_at hl 0 rfl) ?_
            refine lv_aload_n hx hb dX6_decide_211 rfl (lv_at hl 0 rfl) ?_
            refine h_getC (n := 19) (j := 219) (sh := (1, 9)) Z hS cls_14 hi0 (by decide) rfl rfl rfl fl_X6_58_14 dX6_decide_212 (fun hc55 => ?_)
            refine lv_iload_n hx hb dX6_decide_215 rfl (lv_at hl 1 rfl) ?_
            refine h_iald Z hS hc55 dX6_decide_216 h (fun x56 h => ?_)
            refine lv_bipush (v := (114 : Int32)) hx hb dX6_decide_217 (by decide) ?_
            refine h_cim hS h (fun z hz => h_rV (rest := []) Z hS hi0 rfl v_X6_316 (w_X6_worthBy hi0 hz) rfl rfl ⟨by decide, by decide⟩ rfl hl.1 rfl (Nat.le_of_ble_eq_true rfl) (Nat.zero_le _) (Nat.zero_le _) dX6_decide_219) (fun σ57 x58 H locs hS h => ?_)
            refine lv_if_eq (tgt := 232) hx hb dX6_decide_222 (by decide) (fun c59 => ?_) (fun c59 => ?_)
            · have h := if_t h c59
              cases h
              exact K7 _ _ _ hS (lv_sub hl [0, 1] rfl)
            · have h := if_f h c59
              refine lv_aload_n hx hb dX6_decide_225 rfl (lv_at hl 0 rfl) ?_
              refine h_getC (n := 16) (j := 216) (sh := (1, 9)) Z hS cls_14 hi0 (by decide) rfl rfl rfl fl_X6_49_14 dX6_decide_226 (fun hc60 => ?_)
              refine lv_iload_n hx hb dX6_decide_229 rfl (lv_at hl 1 rfl) ?_
              refine lv_iconst (v := (3 : Int32)) hx hb dX6_decide_230 (by decide) ?_
              refine h_iast Z hS hc60 dX6_decide_231 h (fun σ61 H locs hS h => ?_)
              cases h
              exact K7 _ _ _ hS (lv_sub hl [0, 1] rfl)
          · have h := if_f h c54
            refine lv_aload_n hx hb dX6_decide_153 rfl (lv_at hl 0 rfl) ?_
            refine h_getC (n := 46) (j := 246) (sh := (1, 8)) Z hS cls_14 hi0 (by decide) rfl rfl rfl fl_X6_117_14 dX6_decide_154 (fun hc62 => ?_)
            refine lv_iload_n hx hb dX6_decide_157 rfl (lv_at hl 1 rfl) ?_
            refine lv_iconst (v := (0 : Int32)) hx hb dX6_decide_158 (by decide) ?_
            refine lv_sipush (v := (1000 : Int32)) hx hb dX6_decide_159 (by decide) ?_
            refine lv_aload_n hx hb dX6_decide_162 rfl (lv_at hl 0 rfl) ?_
            refine lv_aload_n hx hb dX6_decide_163 rfl (lv_at hl 0 rfl) ?_
            refine h_getC (n := 19) (j := 219) (sh := (1, 9)) Z hS cls_14 hi0 (by decide) rfl rfl rfl fl_X6_58_14 dX6_decide_164 (fun hc63 => ?_)
            refine lv_iload_n hx hb dX6_decide_167 rfl (lv_at hl 1 rfl) ?_
            refine h_iald Z hS hc63 dX6_decide_168 h (fun x64 h => ?_)
            refine lv_bipush (v := (117 : Int32)) hx hb dX6_decide_169 (by decide) ?_
            refine h_cim hS h (fun z hz => h_rV (rest := [.int (1000 : Int32), .int (0 : Int32), .int a1, .ref (ad 246)]) Z hS hi0 rfl v_X6_316 (w_X6_worthBy hi0 hz) rfl rfl ⟨by decide, by decide⟩ rfl hl.1 rfl (Nat.le_of_ble_eq_true rfl) (Nat.zero_le _) (Nat.zero_le _) dX6_decide_171) (fun σ65 x66 H locs hS h => ?_)
            refine y_imin hx hb (hl.1 ▸ Z.2.2.2.2.1) Z.2.2.2.2.2 q1593 (by decide) (Nat.le_of_ble_eq_true rfl) (Nat.zero_le _) (Nat.zero_le _) dX6_decide_174 ?_
            refine y_imax hx hb (hl.1 ▸ Z.2.2.2.2.1) Z.2.2.2.2.2 q1428 (by decide) (Nat.le_of_ble_eq_true rfl) (Nat.zero_le _) (Nat.zero_le _) dX6_decide_177 ?_
            refine h_iast Z hS hc62 dX6_decide_180 h (fun σ67 H locs hS h => ?_)
            refine lv_aload_n hx hb dX6_decide_181 rfl (lv_at hl 0 rfl) ?_
            refine h_getC (n := 16) (j := 216) (sh := (1, 9)) Z hS cls_14 hi0 (by decide) rfl rfl rfl fl_X6_49_14 dX6_decide_182 (fun hc68 => ?_)
            refine lv_iload_n hx hb dX6_decide_185 rfl (lv_at hl 1 rfl) ?_
            refine lv_aload_n hx hb dX6_decide_186 rfl (lv_at hl 0 rfl) ?_
            refine h_getC (n := 18) (j := 218) (sh := (1, 9)) Z hS cls_14 hi0 (by decide) rfl rfl rfl fl_X6_55_14 dX6_decide_187 (fun hc69 => ?_)
            refine lv_iload_n hx hb dX6_decide_190 rfl (lv_at hl 1 rfl) ?_
            refine h_iald Z hS hc69 dX6_decide_191 h (fun x70 h => ?_)
            refine lv_aload_n hx hb dX6_decide_192 rfl (lv_at hl 0 rfl) ?_
            refine h_getC (n := 15) (j := 215) (sh := (1, 9)) Z hS cls_14 hi0 (by decide) rfl rfl rfl fl_X6_46_14 dX6_decide_193 (fun hc71 => ?_)
            refine lv_iload_n hx hb dX6_decide_196 rfl (lv_at hl 1 rfl) ?_
            refine h_iald Z hS hc71 dX6_decide_197 h (fun x72 h => ?_)
            obtain ⟨x74, hp75, h⟩ := bnd_el h
            have K75 : ∀ (H : Heap) (locs : List Loc) (ls : Array Slot), St D A ad S σ67 s.heap H locs → lv_has ls 2 [(0, .ref (ad 200)), (1, .int a1)] → W p l e rm_X6_decide s m ([.ref (ad 200), .int a1] : List Value).toArray below meth c H locs 0 0 (MQ below (QG D A ad S none r) ([.ref (ad 200), .int a1] : List Value).toArray s 0 0 A) (F0 m 206 ls [.int x74, .int a1, .ref (ad 216)]) := by
              intro H locs ls hS hl
              refine h_iast Z hS hc68 dX6_decide_206 h (fun σ76 H locs hS h => ?_)
              refine lv_goto (tgt := 232) hx hb dX6_decide_207 (by decide) ?_
              cases h
              exact K7 _ _ _ hS (lv_sub hl [0, 1] rfl)
            clear h
            have h := hp75
            clear hp75
            refine lv_icmp_lt (tgt := 205) hx hb dX6_decide_198 (by decide) (fun c73 => ?_) (fun c73 => ?_)
            · have h := if_t h c73
              refine lv_iconst (v := (2 : Int32)) hx hb dX6_decide_205 (by decide) ?_
              cases h
              exact K75 _ _ _ hS (lv_sub hl [0, 1] rfl)
            · have h := if_f h c73
              refine lv_iconst (v := (5 : Int32)) hx hb dX6_decide_201 (by decide) ?_
              refine lv_goto (tgt := 206) hx hb dX6_decide_202 (by decide) ?_
              cases h
              exact K75 _ _ _ hS (lv_sub hl [0, 1] rfl)
        · have h := if_f h c49
          refine lv_aload_n hx hb dX6_decide_130 rfl (lv_at hl 0 rfl) ?_
          refine lv_iload_n hx hb dX6_decide_131 rfl (lv_at hl 1 rfl) ?_
          refine h_cm hS h (fun z hz => h_rV (rest := []) Z hS hi0 rfl v_X6_322 (w_X6_change hi0 hz) rfl rfl ⟨by decide, by decide⟩ rfl hl.1 rfl (Nat.le_of_ble_eq_true rfl) (Nat.zero_le _) (Nat.zero_le _) dX6_decide_132) (fun σ77 H locs hS h => ?_)
          refine lv_goto (tgt := 232) hx hb dX6_decide_135 (by decide) ?_
          cases h
          exact K7 _ _ _ hS (lv_sub hl [0, 1] rfl)
      clear h
      have h := hp34
      clear hp34
      refine lv_if_eq (tgt := 80) hx hb dX6_decide_68 (by decide) (fun c32 => ?_) (fun c32 => ?_)
      · have h := if_t h c32
        refine lv_iconst (v := (0 : Int32)) hx hb dX6_decide_80 (by decide) ?_
        cases h
        exact K34 _ _ _ hS (lv_sub hl [0, 1] rfl)
      · have h := if_f h c32
        refine lv_aload_n hx hb dX6_decide_71 rfl (lv_at hl 0 rfl) ?_
        refine h_getC (n := 22) (j := 222) (sh := (1, 9)) Z hS cls_14 hi0 (by decide) rfl rfl rfl fl_X6_67_14 dX6_decide_72 (fun hc78 => ?_)
        refine lv_iload_n hx hb dX6_decide_75 rfl (lv_at hl 1 rfl) ?_
        refine h_iald Z hS hc78 dX6_decide_76 h (fun x79 h => ?_)
        refine lv_goto (tgt := 81) hx hb dX6_decide_77 (by decide) ?_
        cases h
        exact K34 _ _ _ hS (lv_sub hl [0, 1] rfl)
    clear h
    have h := hp23
    clear hp23
    refine lv_if_eq (tgt := 41) hx hb dX6_decide_29 (by decide) (fun c21 => ?_) (fun c21 => ?_)
    · have h := if_t h c21
      refine lv_iconst (v := (0 : Int32)) hx hb dX6_decide_41 (by decide) ?_
      cases h
      exact K23 _ _ _ hS (lv_sub hl [0, 1] rfl)
    · have h := if_f h c21
      refine lv_aload_n hx hb dX6_decide_32 rfl (lv_at hl 0 rfl) ?_
      refine h_getC (n := 21) (j := 221) (sh := (1, 9)) Z hS cls_14 hi0 (by decide) rfl rfl rfl fl_X6_64_14 dX6_decide_33 (fun hc80 => ?_)
      refine lv_iload_n hx hb dX6_decide_36 rfl (lv_at hl 1 rfl) ?_
      refine h_iald Z hS hc80 dX6_decide_37 h (fun x81 h => ?_)
      refine lv_goto (tgt := 42) hx hb dX6_decide_38 (by decide) ?_
      cases h
      exact K23 _ _ _ hS (lv_sub hl [0, 1] rfl)
end
theorem dX6_washOne_0 : decode cX6_washOne 0 = .ok (.iconst 0, 1) := by decide +kernel
theorem dX6_washOne_1 : decode cX6_washOne 1 = .ok (.istore_n 2, 1) := by decide +kernel
theorem dX6_washOne_2 : decode cX6_washOne 2 = .ok (.iload_n 2, 1) := by decide +kernel
theorem dX6_washOne_3 : decode cX6_washOne 3 = .ok (.bipush 8, 2) := by decide +kernel
theorem dX6_washOne_5 : decode cX6_washOne 5 = .ok (.if_icmp .ge 179, 3) := by decide +kernel
theorem dX6_washOne_8 : decode cX6_washOne 8 = .ok (.aload_n 0, 1) := by decide +kernel
theorem dX6_washOne_9 : decode cX6_washOne 9 = .ok (.getfield 37, 3) := by decide +kernel
theorem dX6_washOne_12 : decode cX6_washOne 12 = .ok (.bipush 8, 2) := by decide +kernel
theorem dX6_washOne_14 : decode cX6_washOne 14 = .ok (.iload_n 1, 1) := by decide +kernel
theorem dX6_washOne_15 : decode cX6_washOne 15 = .ok (.imul, 1) := by decide +kernel
theorem dX6_washOne_16 : decode cX6_washOne 16 = .ok (.iload_n 2, 1) := by decide +kernel
theorem dX6_washOne_17 : decode cX6_washOne 17 = .ok (.iadd, 1) := by decide +kernel
theorem dX6_washOne_18 : decode cX6_washOne 18 = .ok (.iaload, 1) := by decide +kernel
theorem dX6_washOne_19 : decode cX6_washOne 19 = .ok (.istore_n 3, 1) := by decide +kernel
theorem dX6_washOne_20 : decode cX6_washOne 20 = .ok (.aload_n 0, 1) := by decide +kernel
theorem dX6_washOne_21 : decode cX6_washOne 21 = .ok (.getfield 37, 3) := by decide +kernel
theorem dX6_washOne_24 : decode cX6_washOne 24 = .ok (.bipush 8, 2) := by decide +kernel
theorem dX6_washOne_26 : decode cX6_washOne 26 = .ok (.iload_n 1, 1) := by decide +kernel
theorem dX6_washOne_27 : decode cX6_washOne 27 = .ok (.imul, 1) := by decide +kernel
theorem dX6_washOne_28 : decode cX6_washOne 28 = .ok (.iload_n 2, 1) := by decide +kernel
theorem dX6_washOne_29 : decode cX6_washOne 29 = .ok (.iadd, 1) := by decide +kernel
theorem dX6_washOne_30 : decode cX6_washOne 30 = .ok (.iconst 0, 1) := by decide +kernel
theorem dX6_washOne_31 : decode cX6_washOne 31 = .ok (.iastore, 1) := by decide +kernel
theorem dX6_washOne_32 : decode cX6_washOne 32 = .ok (.iconst 0, 1) := by decide +kernel
theorem dX6_washOne_33 : decode cX6_washOne 33 = .ok (.istore 4, 2) := by decide +kernel
theorem dX6_washOne_35 : decode cX6_washOne 35 = .ok (.iload 4, 2) := by decide +kernel
theorem dX6_washOne_37 : decode cX6_washOne 37 = .ok (.aload_n 0, 1) := by decide +kernel
theorem dX6_washOne_38 : decode cX6_washOne 38 = .ok (.getfield 19, 3) := by decide +kernel
theorem dX6_washOne_41 : decode cX6_washOne 41 = .ok (.iload_n 1, 1) := by decide +kernel
theorem dX6_washOne_42 : decode cX6_washOne 42 = .ok (.iaload, 1) := by decide +kernel
theorem dX6_washOne_43 : decode cX6_washOne 43 = .ok (.if_icmp .ge 120, 3) := by decide +kernel
theorem dX6_washOne_46 : decode cX6_washOne 46 = .ok (.bipush 8, 2) := by decide +kernel
theorem dX6_washOne_48 : decode cX6_washOne 48 = .ok (.bipush 10, 2) := by decide +kernel
theorem dX6_washOne_50 : decode cX6_washOne 50 = .ok (.iload_n 1, 1) := by decide +kernel
theorem dX6_washOne_51 : decode cX6_washOne 51 = .ok (.imul, 1) := by decide +kernel
theorem dX6_washOne_52 : decode cX6_washOne 52 = .ok (.iload 4, 2) := by decide +kernel
theorem dX6_washOne_54 : decode cX6_washOne 54 = .ok (.iadd, 1) := by decide +kernel
theorem dX6_washOne_55 : decode cX6_washOne 55 = .ok (.imul, 1) := by decide +kernel
theorem dX6_washOne_56 : decode cX6_washOne 56 = .ok (.iload_n 2, 1) := by decide +kernel
theorem dX6_washOne_57 : decode cX6_washOne 57 = .ok (.iadd, 1) := by decide +kernel
theorem dX6_washOne_58 : decode cX6_washOne 58 = .ok (.istore 5, 2) := by decide +kernel
theorem dX6_washOne_60 : decode cX6_washOne 60 = .ok (.aload_n 0, 1) := by decide +kernel
theorem dX6_washOne_61 : decode cX6_washOne 61 = .ok (.getfield 31, 3) := by decide +kernel
theorem dX6_washOne_64 : decode cX6_washOne 64 = .ok (.iload 5, 2) := by decide +kernel
theorem dX6_washOne_66 : decode cX6_washOne 66 = .ok (.iaload, 1) := by decide +kernel
theorem dX6_washOne_67 : decode cX6_washOne 67 = .ok (.aload_n 0, 1) := by decide +kernel
theorem dX6_washOne_68 : decode cX6_washOne 68 = .ok (.getfield 34, 3) := by decide +kernel
theorem dX6_washOne_71 : decode cX6_washOne 71 = .ok (.iload 5, 2) := by decide +kernel
theorem dX6_washOne_73 : decode cX6_washOne 73 = .ok (.iaload, 1) := by decide +kernel
theorem dX6_washOne_74 : decode cX6_washOne 74 = .ok (.isub, 1) := by decide +kernel
theorem dX6_washOne_75 : decode cX6_washOne 75 = .ok (.i2l, 1) := by decide +kernel
theorem dX6_washOne_76 : decode cX6_washOne 76 = .ok (.lstore 6, 2) := by decide +kernel
theorem dX6_washOne_78 : decode cX6_washOne 78 = .ok (.lload 6, 2) := by decide +kernel
theorem dX6_washOne_80 : decode cX6_washOne 80 = .ok (.aload_n 0, 1) := by decide +kernel
theorem dX6_washOne_81 : decode cX6_washOne 81 = .ok (.getfield 16, 3) := by decide +kernel
theorem dX6_washOne_84 : decode cX6_washOne 84 = .ok (.iload_n 2, 1) := by decide +kernel
theorem dX6_washOne_85 : decode cX6_washOne 85 = .ok (.iaload, 1) := by decide +kernel
theorem dX6_washOne_86 : decode cX6_washOne 86 = .ok (.i2l, 1) := by decide +kernel
theorem dX6_washOne_87 : decode cX6_washOne 87 = .ok (.lmul, 1) := by decide +kernel
theorem dX6_washOne_88 : decode cX6_washOne 88 = .ok (.ldc2_w 327, 3) := by decide +kernel
theorem dX6_washOne_91 : decode cX6_washOne 91 = .ok (.ldiv, 1) := by decide +kernel
theorem dX6_washOne_92 : decode cX6_washOne 92 = .ok (.l2i, 1) := by decide +kernel
theorem dX6_washOne_93 : decode cX6_washOne 93 = .ok (.istore 8, 2) := by decide +kernel
theorem dX6_washOne_95 : decode cX6_washOne 95 = .ok (.lload 6, 2) := by decide +kernel
theorem dX6_washOne_97 : decode cX6_washOne 97 = .ok (.iload 8, 2) := by decide +kernel
theorem dX6_washOne_99 : decode cX6_washOne 99 = .ok (.i2l, 1) := by decide +kernel
theorem dX6_washOne_100 : decode cX6_washOne 100 = .ok (.lsub, 1) := by decide +kernel
theorem dX6_washOne_101 : decode cX6_washOne 101 = .ok (.aload_n 0, 1) := by decide +kernel
theorem dX6_washOne_102 : decode cX6_washOne 102 = .ok (.getfield 13, 3) := by decide +kernel
theorem dX6_washOne_105 : decode cX6_washOne 105 = .ok (.iload_n 2, 1) := by decide +kernel
theorem dX6_washOne_106 : decode cX6_washOne 106 = .ok (.iaload, 1) := by decide +kernel
theorem dX6_washOne_107 : decode cX6_washOne 107 = .ok (.i2l, 1) := by decide +kernel
theorem dX6_washOne_108 : decode cX6_washOne 108 = .ok (.lmul, 1) := by decide +kernel
theorem dX6_washOne_109 : decode cX6_washOne 109 = .ok (.ldc2_w 327, 3) := by decide +kernel
theorem dX6_washOne_112 : decode cX6_washOne 112 = .ok (.ldiv, 1) := by decide +kernel
theorem dX6_washOne_113 : decode cX6_washOne 113 = .ok (.aload_n 0, 1) := by decide +kernel
theorem dX6_washOne_114 : decode cX6_washOne 114 = .ok (.getfield 117, 3) := by decide +kernel
theorem dX6_washOne_117 : decode cX6_washOne 117 = .ok (.iload_n 1, 1) := by decide +kernel
theorem dX6_washOne_118 : decode cX6_washOne 118 = .ok (.iaload, 1) := by decide +kernel
theorem dX6_washOne_119 : decode cX6_washOne 119 = .ok (.i2l, 1) := by decide +kernel
theorem dX6_washOne_120 : decode cX6_washOne 120 = .ok (.lmul, 1) := by decide +kernel
theorem dX6_washOne_121 : decode cX6_washOne 121 = .ok (.ldc2_w 327, 3) := by decide +kernel
theorem dX6_washOne_124 : decode cX6_washOne 124 = .ok (.ldiv, 1) := by decide +kernel
theorem dX6_washOne_125 : decode cX6_washOne 125 = .ok (.l2i, 1) := by decide +kernel
theorem dX6_washOne_126 : decode cX6_washOne 126 = .ok (.istore 9, 2) := by decide +kernel
theorem dX6_washOne_128 : decode cX6_washOne 128 = .ok (.aload_n 0, 1) := by decide +kernel
theorem dX6_washOne_129 : decode cX6_washOne 129 = .ok (.getfield 34, 3) := by decide +kernel
theorem dX6_washOne_132 : decode cX6_washOne 132 = .ok (.iload 5, 2) := by decide +kernel
theorem dX6_washOne_134 : decode cX6_washOne 134 = .ok (.dup2, 1) := by decide +kernel
theorem dX6_washOne_135 : decode cX6_washOne 135 = .ok (.iaload, 1) := by decide +kernel
theorem dX6_washOne_136 : decode cX6_washOne 136 = .ok (.iload 8, 2) := by decide +kernel
theorem dX6_washOne_138 : decode cX6_washOne 138 = .ok (.iadd, 1) := by decide +kernel
theorem dX6_washOne_139 : decode cX6_washOne 139 = .ok (.iastore, 1) := by decide +kernel
theorem dX6_washOne_140 : decode cX6_washOne 140 = .ok (.aload_n 0, 1) := by decide +kernel
theorem dX6_washOne_141 : decode cX6_washOne 141 = .ok (.getfield 31, 3) := by decide +kernel
theorem dX6_washOne_144 : decode cX6_washOne 144 = .ok (.iload 5, 2) := by decide +kernel
theorem dX6_washOne_146 : decode cX6_washOne 146 = .ok (.dup2, 1) := by decide +kernel
theorem dX6_washOne_147 : decode cX6_washOne 147 = .ok (.iaload, 1) := by decide +kernel
theorem dX6_washOne_148 : decode cX6_washOne 148 = .ok (.iload 9, 2) := by decide +kernel
theorem dX6_washOne_150 : decode cX6_washOne 150 = .ok (.isub, 1) := by decide +kernel
theorem dX6_washOne_151 : decode cX6_washOne 151 = .ok (.iastore, 1) := by decide +kernel
theorem dX6_washOne_152 : decode cX6_washOne 152 = .ok (.iload_n 3, 1) := by decide +kernel
theorem dX6_washOne_153 : decode cX6_washOne 153 = .ok (.iload 9, 2) := by decide +kernel
theorem dX6_washOne_155 : decode cX6_washOne 155 = .ok (.iadd, 1) := by decide +kernel
theorem dX6_washOne_156 : decode cX6_washOne 156 = .ok (.istore_n 3, 1) := by decide +kernel
theorem dX6_washOne_157 : decode cX6_washOne 157 = .ok (.iinc 4 1, 3) := by decide +kernel
theorem dX6_washOne_160 : decode cX6_washOne 160 = .ok (.goto (-125), 3) := by decide +kernel
theorem dX6_washOne_163 : decode cX6_washOne 163 = .ok (.aload_n 0, 1) := by decide +kernel
theorem dX6_washOne_164 : decode cX6_washOne 164 = .ok (.getfield 108, 3) := by decide +kernel
theorem dX6_washOne_167 : decode cX6_washOne 167 = .ok (.bipush 6, 2) := by decide +kernel
theorem dX6_washOne_169 : decode cX6_washOne 169 = .ok (.iload_n 2, 1) := by decide +kernel
theorem dX6_washOne_170 : decode cX6_washOne 170 = .ok (.imul, 1) := by decide +kernel
theorem dX6_washOne_171 : decode cX6_washOne 171 = .ok (.iconst 2, 1) := by decide +kernel
theorem dX6_washOne_172 : decode cX6_washOne 172 = .ok (.iadd, 1) := by decide +kernel
theorem dX6_washOne_173 : decode cX6_washOne 173 = .ok (.dup2, 1) := by decide +kernel
theorem dX6_washOne_174 : decode cX6_washOne 174 = .ok (.iaload, 1) := by decide +kernel
theorem dX6_washOne_175 : decode cX6_washOne 175 = .ok (.iload_n 3, 1) := by decide +kernel
theorem dX6_washOne_176 : decode cX6_washOne 176 = .ok (.iadd, 1) := by decide +kernel
theorem dX6_washOne_177 : decode cX6_washOne 177 = .ok (.iastore, 1) := by decide +kernel
theorem dX6_washOne_178 : decode cX6_washOne 178 = .ok (.iinc 2 1, 3) := by decide +kernel
theorem dX6_washOne_181 : decode cX6_washOne 181 = .ok (.goto (-179), 3) := by decide +kernel
theorem dX6_washOne_184 : decode cX6_washOne 184 = .ok (.iconst 0, 1) := by decide +kernel
theorem dX6_washOne_185 : decode cX6_washOne 185 = .ok (.istore_n 2, 1) := by decide +kernel
theorem dX6_washOne_186 : decode cX6_washOne 186 = .ok (.iload_n 2, 1) := by decide +kernel
theorem dX6_washOne_187 : decode cX6_washOne 187 = .ok (.aload_n 0, 1) := by decide +kernel
theorem dX6_washOne_188 : decode cX6_washOne 188 = .ok (.getfield 19, 3) := by decide +kernel
theorem dX6_washOne_191 : decode cX6_washOne 191 = .ok (.iload_n 1, 1) := by decide +kernel
theorem dX6_washOne_192 : decode cX6_washOne 192 = .ok (.iaload, 1) := by decide +kernel
theorem dX6_washOne_193 : decode cX6_washOne 193 = .ok (.if_icmp .ge 53, 3) := by decide +kernel
theorem dX6_washOne_196 : decode cX6_washOne 196 = .ok (.aload_n 0, 1) := by decide +kernel
theorem dX6_washOne_197 : decode cX6_washOne 197 = .ok (.getfield 117, 3) := by decide +kernel
theorem dX6_washOne_200 : decode cX6_washOne 200 = .ok (.iload_n 1, 1) := by decide +kernel
theorem dX6_washOne_201 : decode cX6_washOne 201 = .ok (.iaload, 1) := by decide +kernel
theorem dX6_washOne_202 : decode cX6_washOne 202 = .ok (.aload_n 0, 1) := by decide +kernel
theorem dX6_washOne_203 : decode cX6_washOne 203 = .ok (.getfield 43, 3) := by decide +kernel
theorem dX6_washOne_206 : decode cX6_washOne 206 = .ok (.iload_n 1, 1) := by decide +kernel
theorem dX6_washOne_207 : decode cX6_washOne 207 = .ok (.iaload, 1) := by decide +kernel
theorem dX6_washOne_208 : decode cX6_washOne 208 = .ok (.if_icmp .le 38, 3) := by decide +kernel
theorem dX6_washOne_211 : decode cX6_washOne 211 = .ok (.aload_n 0, 1) := by decide +kernel
theorem dX6_washOne_212 : decode cX6_washOne 212 = .ok (.getfield 22, 3) := by decide +kernel
theorem dX6_washOne_215 : decode cX6_washOne 215 = .ok (.bipush 10, 2) := by decide +kernel
theorem dX6_washOne_217 : decode cX6_washOne 217 = .ok (.iload_n 1, 1) := by decide +kernel
theorem dX6_washOne_218 : decode cX6_washOne 218 = .ok (.imul, 1) := by decide +kernel
theorem dX6_washOne_219 : decode cX6_washOne 219 = .ok (.iload_n 2, 1) := by decide +kernel
theorem dX6_washOne_220 : decode cX6_washOne 220 = .ok (.iadd, 1) := by decide +kernel
theorem dX6_washOne_221 : decode cX6_washOne 221 = .ok (.bipush 20, 2) := by decide +kernel
theorem dX6_washOne_223 : decode cX6_washOne 223 = .ok (.aload_n 0, 1) := by decide +kernel
theorem dX6_washOne_224 : decode cX6_washOne 224 = .ok (.getfield 22, 3) := by decide +kernel
theorem dX6_washOne_227 : decode cX6_washOne 227 = .ok (.bipush 10, 2) := by decide +kernel
theorem dX6_washOne_229 : decode cX6_washOne 229 = .ok (.iload_n 1, 1) := by decide +kernel
theorem dX6_washOne_230 : decode cX6_washOne 230 = .ok (.imul, 1) := by decide +kernel
theorem dX6_washOne_231 : decode cX6_washOne 231 = .ok (.iload_n 2, 1) := by decide +kernel
theorem dX6_washOne_232 : decode cX6_washOne 232 = .ok (.iadd, 1) := by decide +kernel
theorem dX6_washOne_233 : decode cX6_washOne 233 = .ok (.iaload, 1) := by decide +kernel
theorem dX6_washOne_234 : decode cX6_washOne 234 = .ok (.iconst 1, 1) := by decide +kernel
theorem dX6_washOne_235 : decode cX6_washOne 235 = .ok (.iadd, 1) := by decide +kernel
theorem dX6_washOne_236 : decode cX6_washOne 236 = .ok (.invokestatic 325, 3) := by decide +kernel
theorem dX6_washOne_239 : decode cX6_washOne 239 = .ok (.iastore, 1) := by decide +kernel
theorem dX6_washOne_240 : decode cX6_washOne 240 = .ok (.iinc 2 1, 3) := by decide +kernel
theorem dX6_washOne_243 : decode cX6_washOne 243 = .ok (.goto (-57), 3) := by decide +kernel
theorem dX6_washOne_246 : decode cX6_washOne 246 = .ok (.aload_n 0, 1) := by decide +kernel
theorem dX6_washOne_247 : decode cX6_washOne 247 = .ok (.getfield 52, 3) := by decide +kernel
theorem dX6_washOne_250 : decode cX6_washOne 250 = .ok (.iload_n 1, 1) := by decide +kernel
theorem dX6_washOne_251 : decode cX6_washOne 251 = .ok (.iconst 0, 1) := by decide +kernel
theorem dX6_washOne_252 : decode cX6_washOne 252 = .ok (.iastore, 1) := by decide +kernel
theorem dX6_washOne_253 : decode cX6_washOne 253 = .ok (.aload_n 0, 1) := by decide +kernel
theorem dX6_washOne_254 : decode cX6_washOne 254 = .ok (.getfield 55, 3) := by decide +kernel
theorem dX6_washOne_257 : decode cX6_washOne 257 = .ok (.iload_n 1, 1) := by decide +kernel
theorem dX6_washOne_258 : decode cX6_washOne 258 = .ok (.dup2, 1) := by decide +kernel
theorem dX6_washOne_259 : decode cX6_washOne 259 = .ok (.iaload, 1) := by decide +kernel
theorem dX6_washOne_260 : decode cX6_washOne 260 = .ok (.iconst 1, 1) := by decide +kernel
theorem dX6_washOne_261 : decode cX6_washOne 261 = .ok (.iadd, 1) := by decide +kernel
theorem dX6_washOne_262 : decode cX6_washOne 262 = .ok (.iastore, 1) := by decide +kernel
theorem dX6_washOne_263 : decode cX6_washOne 263 = .ok (.return_, 1) := by decide +kernel
abbrev rm_X6_washOne : Room := k2_rm 1 15
section
variable {p : Program} {l : Launch} {e : Env} {s : State} {m : MethodId} {args : Array Value} {below : List Frame} {meth : Method} {c : Code} {D : gD} {A : Nat → Prop} {ad : Nat → Nat} {S : Nat → Nat × Nat} {σ : Mem}
set_option maxRecDepth 100000 in
set_option maxHeartbeats 4000000 in
theorem w_X6_washOne_L35 (Z : Cz D (Ew D A) A cX6_washOne 10 none RX6 p s m args meth c) {u1 : Int32} {u2 : Int32} (hu0 : S 200 = (24, 0)) {r : Mem} {k163 : Mem → Int32 → Option Mem}
    (hk163 : ∀ (σ : Mem) (w3 : Int32) (H : Heap) (locs : List Loc) (ls : Array Slot), St D A ad S σ s.heap H locs → lv_has ls 10 [(0, .ref (ad 200)), (1, .int u1), (2, .int u2), (3, .int w3)] → k163 σ w3 = some r → W p l e rm_X6_washOne s m args below meth c H locs 0 0 (MQ below (QG D A ad S none r) args s 0 0 A) (F0 m 163 ls [])) :
    ∀ (n : Nat) (σ : Mem) (v3 : Int32) (v4 : Int32) (H : Heap) (locs : List Loc) (ls : Array Slot), St D A ad S σ s.heap H locs → lv_has ls 10 [(0, .ref (ad 200)), (1, .int u1), (2, .int u2), (3, .int v3), (4, .int v4)] → f_X6_washOne_L35 k163 u1 u2 n σ v3 v4 = some r → W p l e rm_X6_washOne s m args below meth c H locs 0 0 (MQ below (QG D A ad S none r) args s 0 0 A) (F0 m 35 ls []) := by
  have hx := Z.1
  have hb := Z.2.1
  have hown := Z.2.2.2.2.2.1
  have hts := Z.2.2.2.2.2.2.1
  intro n
  induction n with
  | zero => intro σ v3 v4 H locs ls hS hl h; cases h
  | succ n ih =>
    intro σ v3 v4 H locs ls hS hl h
    unfold f_X6_washOne_L35 at h
    refine lv_iload hx hb dX6_washOne_35 (lv_at hl 4 rfl) ?_
    refine lv_aload_n hx hb dX6_washOne_37 rfl (lv_at hl 0 rfl) ?_
    refine h_getC (n := 6) (j := 206) (sh := (1, 9)) Z hS cls_14 hu0 (by decide) rfl rfl rfl fl_X6_19_14 dX6_washOne_38 (fun hc6 => ?_)
    refine lv_iload_n hx hb dX6_washOne_41 rfl (lv_at hl 1 rfl) ?_
    refine h_iald Z hS hc6 dX6_washOne_42 h (fun x7 h => ?_)
    refine lv_icmp_ge (tgt := 163) hx hb dX6_washOne_43 (by decide) (fun c8 => ?_) (fun c8 => ?_)
    · have h := if_t h c8
      exact hk163 _ _ _ _ _ hS (lv_sub hl [0, 1, 2, 3] rfl) h
    · have h := if_f h c8
      refine lv_bipush (v := (8 : Int32)) hx hb dX6_washOne_46 (by decide) ?_
      refine lv_bipush (v := (10 : Int32)) hx hb dX6_washOne_48 (by decide) ?_
      refine lv_iload_n hx hb dX6_washOne_50 rfl (lv_at hl 1 rfl) ?_
      refine lv_imul hx hb dX6_washOne_51 ?_
      refine lv_iload hx hb dX6_washOne_52 (lv_at hl 4 rfl) ?_
      refine lv_iadd hx hb dX6_washOne_54 ?_
      refine lv_imul hx hb dX6_washOne_55 ?_
      refine lv_iload_n hx hb dX6_washOne_56 rfl (lv_at hl 2 rfl) ?_
      refine lv_iadd hx hb dX6_washOne_57 ?_
      refine h_leti h (fun x9 h => ?_)
      refine lv_istore (lv' := [(5, .int x9), (0, .ref (ad 200)), (1, .int u1), (2, .int u2), (3, .int v3), (4, .int v4)]) hx hb dX6_washOne_58 hl (by decide) rfl (fun ls hl => ?_)
      refine lv_aload_n hx hb dX6_washOne_60 rfl (lv_at hl 1 rfl) ?_
      refine h_getC (n := 10) (j := 210) (sh := (1, 720)) Z hS cls_14 hu0 (by decide) rfl rfl rfl fl_X6_31_14 dX6_washOne_61 (fun hc10 => ?_)
      refine lv_iload hx hb dX6_washOne_64 (lv_at hl 0 rfl) ?_
      refine h_iald Z hS hc10 dX6_washOne_66 h (fun x11 h => ?_)
      refine lv_aload_n hx hb dX6_washOne_67 rfl (lv_at hl 1 rfl) ?_
      refine h_getC (n := 11) (j := 211) (sh := (1, 720)) Z hS cls_14 hu0 (by decide) rfl rfl rfl fl_X6_34_14 dX6_washOne_68 (fun hc12 => ?_)
      refine lv_iload hx hb dX6_washOne_71 (lv_at hl 0 rfl) ?_
      refine h_iald Z hS hc12 dX6_washOne_73 h (fun x13 h => ?_)
      refine lv_isub hx hb dX6_washOne_74 ?_
      refine lv_i2l hx hb dX6_washOne_75 rfl ?_
      refine h_letl h (fun y14 h => ?_)
      refine lv_lstore (lv' := [(6, .long y14), (5, .int x9), (0, .ref (ad 200)), (1, .int u1), (2, .int u2), (3, .int v3), (4, .int v4)]) hx hb dX6_washOne_76 hl (by decide) rfl (fun ls hl => ?_)
      refine lv_lload hx hb dX6_washOne_78 (lv_at hl 0 rfl) ?_
      refine lv_aload_n hx hb dX6_washOne_80 rfl (lv_at hl 2 rfl) ?_
      refine h_getC (n := 5) (j := 205) (sh := (1, 8)) Z hS cls_14 hu0 (by decide) rfl rfl rfl fl_X6_16_14 dX6_washOne_81 (fun hc15 => ?_)
      refine lv_iload_n hx hb dX6_washOne_84 rfl (lv_at hl 4 rfl) ?_
      refine h_iald Z hS hc15 dX6_washOne_85 h (fun x16 h => ?_)
      refine lv_i2l hx hb dX6_washOne_86 rfl ?_
      refine lv_lmul hx hb dX6_washOne_87 ?_
      refine lv_ldc2 (v := (1000 : Int64)) hx hb hown (hts _ q1598) dX6_washOne_88 ?_
      refine h_ldiv Z dX6_washOne_91 h (fun h => ?_)
      refine lv_l2i hx hb dX6_washOne_92 rfl ?_
      refine h_leti h (fun x17 h => ?_)
      refine lv_istore (lv' := [(8, .int x17), (6, .long y14), (5, .int x9), (0, .ref (ad 200)), (1, .int u1), (2, .int u2), (3, .int v3), (4, .int v4)]) hx hb dX6_washOne_93 hl (by decide) rfl (fun ls hl => ?_)
      refine lv_lload hx hb dX6_washOne_95 (lv_at hl 1 rfl) ?_
      refine lv_iload hx hb dX6_washOne_97 (lv_at hl 0 rfl) ?_
      refine lv_i2l hx hb dX6_washOne_99 rfl ?_
      refine lv_lsub hx hb dX6_washOne_100 ?_
      refine lv_aload_n hx hb dX6_washOne_101 rfl (lv_at hl 3 rfl) ?_
      refine h_getC (n := 4) (j := 204) (sh := (1, 8)) Z hS cls_14 hu0 (by decide) rfl rfl rfl fl_X6_13_14 dX6_washOne_102 (fun hc18 => ?_)
      refine lv_iload_n hx hb dX6_washOne_105 rfl (lv_at hl 5 rfl) ?_
      refine h_iald Z hS hc18 dX6_washOne_106 h (fun x19 h => ?_)
      refine lv_i2l hx hb dX6_washOne_107 rfl ?_
      refine lv_lmul hx hb dX6_washOne_108 ?_
      refine lv_ldc2 (v := (1000 : Int64)) hx hb hown (hts _ q1598) dX6_washOne_109 ?_
      refine h_ldiv Z dX6_washOne_112 h (fun h => ?_)
      refine lv_aload_n hx hb dX6_washOne_113 rfl (lv_at hl 3 rfl) ?_
      refine h_getC (n := 46) (j := 246) (sh := (1, 8)) Z hS cls_14 hu0 (by decide) rfl rfl rfl fl_X6_117_14 dX6_washOne_114 (fun hc20 => ?_)
      refine lv_iload_n hx hb dX6_washOne_117 rfl (lv_at hl 4 rfl) ?_
      refine h_iald Z hS hc20 dX6_washOne_118 h (fun x21 h => ?_)
      refine lv_i2l hx hb dX6_washOne_119 rfl ?_
      refine lv_lmul hx hb dX6_washOne_120 ?_
      refine lv_ldc2 (v := (1000 : Int64)) hx hb hown (hts _ q1598) dX6_washOne_121 ?_
      refine h_ldiv Z dX6_washOne_124 h (fun h => ?_)
      refine lv_l2i hx hb dX6_washOne_125 rfl ?_
      refine h_leti h (fun x22 h => ?_)
      refine lv_istore (lv' := [(9, .int x22), (8, .int x17), (6, .long y14), (5, .int x9), (0, .ref (ad 200)), (1, .int u1), (2, .int u2), (3, .int v3), (4, .int v4)]) hx hb dX6_washOne_126 hl (by decide) rfl (fun ls hl => ?_)
      refine lv_aload_n hx hb dX6_washOne_128 rfl (lv_at hl 4 rfl) ?_
      refine h_getC (n := 11) (j := 211) (sh := (1, 720)) Z hS cls_14 hu0 (by decide) rfl rfl rfl fl_X6_34_14 dX6_washOne_129 (fun hc23 => ?_)
      refine lv_iload hx hb dX6_washOne_132 (lv_at hl 3 rfl) ?_
      refine lv_dup2_11 hx hb dX6_washOne_134 rfl rfl ?_
      refine h_iald Z hS hc23 dX6_washOne_135 h (fun x24 h => ?_)
      refine lv_iload hx hb dX6_washOne_136 (lv_at hl 1 rfl) ?_
      refine lv_iadd hx hb dX6_washOne_138 ?_
      refine h_iast Z hS hc23 dX6_washOne_139 h (fun σ25 H locs hS h => ?_)
      refine lv_aload_n hx hb dX6_washOne_140 rfl (lv_at hl 4 rfl) ?_
      refine h_getC (n := 10) (j := 210) (sh := (1, 720)) Z hS cls_14 hu0 (by decide) rfl rfl rfl fl_X6_31_14 dX6_washOne_141 (fun hc26 => ?_)
      refine lv_iload hx hb dX6_washOne_144 (lv_at hl 3 rfl) ?_
      refine lv_dup2_11 hx hb dX6_washOne_146 rfl rfl ?_
      refine h_iald Z hS hc26 dX6_washOne_147 h (fun x27 h => ?_)
      refine lv_iload hx hb dX6_washOne_148 (lv_at hl 0 rfl) ?_
      refine lv_isub hx hb dX6_washOne_150 ?_
      refine h_iast Z hS hc26 dX6_washOne_151 h (fun σ28 H locs hS h => ?_)
      refine lv_iload_n hx hb dX6_washOne_152 rfl (lv_at hl 7 rfl) ?_
      refine lv_iload hx hb dX6_washOne_153 (lv_at hl 0 rfl) ?_
      refine lv_iadd hx hb dX6_washOne_155 ?_
      refine h_leti h (fun x29 h => ?_)
      refine lv_istore_n (lv' := [(3, .int x29), (9, .int x22), (8, .int x17), (6, .long y14), (5, .int x9), (0, .ref (ad 200)), (1, .int u1), (2, .int u2), (4, .int v4)]) hx hb dX6_washOne_156 rfl hl (by decide) rfl (fun ls hl => ?_)
      refine lv_iinc (v := (v4 + (1 : Int32))) (lv' := [(4, .int (v4 + (1 : Int32))), (3, .int x29), (9, .int x22), (8, .int x17), (6, .long y14), (5, .int x9), (0, .ref (ad 200)), (1, .int u1), (2, .int u2)]) hx hb dX6_washOne_157 hl (k := 8) rfl rfl (by decide) rfl (fun ls hl => ?_)
      refine lv_goto (tgt := 35) hx hb dX6_washOne_160 (by decide) ?_
      exact ih _ _ _ _ _ _ hS (lv_sub hl [6, 7, 8, 1, 0] rfl) h
set_option maxRecDepth 100000 in
set_option maxHeartbeats 4000000 in
theorem w_X6_washOne_L2 (Z : Cz D (Ew D A) A cX6_washOne 10 none RX6 p s m args meth c) {u1 : Int32} (hu0 : S 200 = (24, 0)) {r : Mem} {k184 : Mem → Option Mem}
    (hk184 : ∀ (σ : Mem)  (H : Heap) (locs : List Loc) (ls : Array Slot), St D A ad S σ s.heap H locs → lv_has ls 10 [(0, .ref (ad 200)), (1, .int u1)] → k184 σ = some r → W p l e rm_X6_washOne s m args below meth c H locs 0 0 (MQ below (QG D A ad S none r) args s 0 0 A) (F0 m 184 ls [])) :
    ∀ (n : Nat) (σ : Mem) (v2 : Int32) (H : Heap) (locs : List Loc) (ls : Array Slot), St D A ad S σ s.heap H locs → lv_has ls 10 [(0, .ref (ad 200)), (1, .int u1), (2, .int v2)] → f_X6_washOne_L2 k184 u1 n σ v2 = some r → W p l e rm_X6_washOne s m args below meth c H locs 0 0 (MQ below (QG D A ad S none r) args s 0 0 A) (F0 m 2 ls []) := by
  have hx := Z.1
  have hb := Z.2.1
  have hown := Z.2.2.2.2.2.1
  have hts := Z.2.2.2.2.2.2.1
  intro n
  induction n with
  | zero => intro σ v2 H locs ls hS hl h; cases h
  | succ n ih =>
    intro σ v2 H locs ls hS hl h
    unfold f_X6_washOne_L2 at h
    refine lv_iload_n hx hb dX6_washOne_2 rfl (lv_at hl 2 rfl) ?_
    refine lv_bipush (v := (8 : Int32)) hx hb dX6_washOne_3 (by decide) ?_
    refine lv_icmp_ge (tgt := 184) hx hb dX6_washOne_5 (by decide) (fun c1 => ?_) (fun c1 => ?_)
    · have h := if_t h c1
      exact hk184 _ _ _ _ hS (lv_sub hl [0, 1] rfl) h
    · have h := if_f h c1
      refine lv_aload_n hx hb dX6_washOne_8 rfl (lv_at hl 0 rfl) ?_
      refine h_getC (n := 12) (j := 212) (sh := (1, 72)) Z hS cls_14 hu0 (by decide) rfl rfl rfl fl_X6_37_14 dX6_washOne_9 (fun hc2 => ?_)
      refine lv_bipush (v := (8 : Int32)) hx hb dX6_washOne_12 (by decide) ?_
      refine lv_iload_n hx hb dX6_washOne_14 rfl (lv_at hl 1 rfl) ?_
      refine lv_imul hx hb dX6_washOne_15 ?_
      refine lv_iload_n hx hb dX6_washOne_16 rfl (lv_at hl 2 rfl) ?_
      refine lv_iadd hx hb dX6_washOne_17 ?_
      refine h_iald Z hS hc2 dX6_washOne_18 h (fun x3 h => ?_)
      refine lv_istore_n (lv' := [(3, .int x3), (0, .ref (ad 200)), (1, .int u1), (2, .int v2)]) hx hb dX6_washOne_19 rfl hl (by decide) rfl (fun ls hl => ?_)
      refine lv_aload_n hx hb dX6_washOne_20 rfl (lv_at hl 1 rfl) ?_
      refine h_getC (n := 12) (j := 212) (sh := (1, 72)) Z hS cls_14 hu0 (by decide) rfl rfl rfl fl_X6_37_14 dX6_washOne_21 (fun hc4 => ?_)
      refine lv_bipush (v := (8 : Int32)) hx hb dX6_washOne_24 (by decide) ?_
      refine lv_iload_n hx hb dX6_washOne_26 rfl (lv_at hl 2 rfl) ?_
      refine lv_imul hx hb dX6_washOne_27 ?_
      refine lv_iload_n hx hb dX6_washOne_28 rfl (lv_at hl 3 rfl) ?_
      refine lv_iadd hx hb dX6_washOne_29 ?_
      refine lv_iconst (v := (0 : Int32)) hx hb dX6_washOne_30 (by decide) ?_
      refine h_iast Z hS hc4 dX6_washOne_31 h (fun σ5 H locs hS h => ?_)
      refine lv_iconst (v := (0 : Int32)) hx hb dX6_washOne_32 (by decide) ?_
      refine lv_istore (lv' := [(4, .int (0 : Int32)), (3, .int x3), (0, .ref (ad 200)), (1, .int u1), (2, .int v2)]) hx hb dX6_washOne_33 hl (by decide) rfl (fun ls hl => ?_)
      refine w_X6_washOne_L35 Z hu0 (fun σ30 x31 H locs ls hS hl h => ?_) FU _ _ _ _ _ _ hS (lv_sub hl [2, 3, 4, 1, 0] rfl) h
      refine lv_aload_n hx hb dX6_washOne_163 rfl (lv_at hl 0 rfl) ?_
      refine h_getC (n := 43) (j := 243) (sh := (1, 48)) Z hS cls_14 hu0 (by decide) rfl rfl rfl fl_X6_108_14 dX6_washOne_164 (fun hc32 => ?_)
      refine lv_bipush (v := (6 : Int32)) hx hb dX6_washOne_167 (by decide) ?_
      refine lv_iload_n hx hb dX6_washOne_169 rfl (lv_at hl 2 rfl) ?_
      refine lv_imul hx hb dX6_washOne_170 ?_
      refine lv_iconst (v := (2 : Int32)) hx hb dX6_washOne_171 (by decide) ?_
      refine lv_iadd hx hb dX6_washOne_172 ?_
      refine lv_dup2_11 hx hb dX6_washOne_173 rfl rfl ?_
      refine h_iald Z hS hc32 dX6_washOne_174 h (fun x33 h => ?_)
      refine lv_iload_n hx hb dX6_washOne_175 rfl (lv_at hl 3 rfl) ?_
      refine lv_iadd hx hb dX6_washOne_176 ?_
      refine h_iast Z hS hc32 dX6_washOne_177 h (fun σ34 H locs hS h => ?_)
      refine lv_iinc (v := (v2 + (1 : Int32))) (lv' := [(2, .int (v2 + (1 : Int32))), (0, .ref (ad 200)), (1, .int u1), (3, .int x31)]) hx hb dX6_washOne_178 hl (k := 2) rfl rfl (by decide) rfl (fun ls hl => ?_)
      refine lv_goto (tgt := 2) hx hb dX6_washOne_181 (by decide) ?_
      exact ih _ _ _ _ _ hS (lv_sub hl [1, 2, 0] rfl) h
set_option maxRecDepth 100000 in
set_option maxHeartbeats 4000000 in
theorem w_X6_washOne_L186 (Z : Cz D (Ew D A) A cX6_washOne 10 none RX6 p s m args meth c) {u1 : Int32} (hu0 : S 200 = (24, 0)) {r : Mem} {k246 : Mem → Option Mem}
    (hk246 : ∀ (σ : Mem)  (H : Heap) (locs : List Loc) (ls : Array Slot), St D A ad S σ s.heap H locs → lv_has ls 10 [(0, .ref (ad 200)), (1, .int u1)] → k246 σ = some r → W p l e rm_X6_washOne s m args below meth c H locs 0 0 (MQ below (QG D A ad S none r) args s 0 0 A) (F0 m 246 ls [])) :
    ∀ (n : Nat) (σ : Mem) (v2 : Int32) (H : Heap) (locs : List Loc) (ls : Array Slot), St D A ad S σ s.heap H locs → lv_has ls 10 [(0, .ref (ad 200)), (1, .int u1), (2, .int v2)] → f_X6_washOne_L186 k246 u1 n σ v2 = some r → W p l e rm_X6_washOne s m args below meth c H locs 0 0 (MQ below (QG D A ad S none r) args s 0 0 A) (F0 m 186 ls []) := by
  have hx := Z.1
  have hb := Z.2.1
  have hown := Z.2.2.2.2.2.1
  have hts := Z.2.2.2.2.2.2.1
  intro n
  induction n with
  | zero => intro σ v2 H locs ls hS hl h; cases h
  | succ n ih =>
    intro σ v2 H locs ls hS hl h
    unfold f_X6_washOne_L186 at h
    refine lv_iload_n hx hb dX6_washOne_186 rfl (lv_at hl 2 rfl) ?_
    refine lv_aload_n hx hb dX6_washOne_187 rfl (lv_at hl 0 rfl) ?_
    refine h_getC (n := 6) (j := 206) (sh := (1, 9)) Z hS cls_14 hu0 (by decide) rfl rfl rfl fl_X6_19_14 dX6_washOne_188 (fun hc36 => ?_)
    refine lv_iload_n hx hb dX6_washOne_191 rfl (lv_at hl 1 rfl) ?_
    refine h_iald Z hS hc36 dX6_washOne_192 h (fun x37 h => ?_)
    refine lv_icmp_ge (tgt := 246) hx hb dX6_washOne_193 (by decide) (fun c38 => ?_) (fun c38 => ?_)
    · have h := if_t h c38
      exact hk246 _ _ _ _ hS (lv_sub hl [0, 1] rfl) h
    · have h := if_f h c38
      refine lv_aload_n hx hb dX6_washOne_196 rfl (lv_at hl 0 rfl) ?_
      refine h_getC (n := 46) (j := 246) (sh := (1, 8)) Z hS cls_14 hu0 (by decide) rfl rfl rfl fl_X6_117_14 dX6_washOne_197 (fun hc39 => ?_)
      refine lv_iload_n hx hb dX6_washOne_200 rfl (lv_at hl 1 rfl) ?_
      refine h_iald Z hS hc39 dX6_washOne_201 h (fun x40 h => ?_)
      refine lv_aload_n hx hb dX6_washOne_202 rfl (lv_at hl 0 rfl) ?_
      refine h_getC (n := 14) (j := 214) (sh := (1, 9)) Z hS cls_14 hu0 (by decide) rfl rfl rfl fl_X6_43_14 dX6_washOne_203 (fun hc41 => ?_)
      refine lv_iload_n hx hb dX6_washOne_206 rfl (lv_at hl 1 rfl) ?_
      refine h_iald Z hS hc41 dX6_washOne_207 h (fun x42 h => ?_)
      refine lv_icmp_le (tgt := 246) hx hb dX6_washOne_208 (by decide) (fun c43 => ?_) (fun c43 => ?_)
      · have h := if_t h c43
        exact hk246 _ _ _ _ hS (lv_sub hl [0, 1] rfl) h
      · have h := if_f h c43
        refine lv_aload_n hx hb dX6_washOne_211 rfl (lv_at hl 0 rfl) ?_
        refine h_getC (n := 7) (j := 207) (sh := (1, 90)) Z hS cls_14 hu0 (by decide) rfl rfl rfl fl_X6_22_14 dX6_washOne_212 (fun hc44 => ?_)
        refine lv_bipush (v := (10 : Int32)) hx hb dX6_washOne_215 (by decide) ?_
        refine lv_iload_n hx hb dX6_washOne_217 rfl (lv_at hl 1 rfl) ?_
        refine lv_imul hx hb dX6_washOne_218 ?_
        refine lv_iload_n hx hb dX6_washOne_219 rfl (lv_at hl 2 rfl) ?_
        refine lv_iadd hx hb dX6_washOne_220 ?_
        refine lv_bipush (v := (20 : Int32)) hx hb dX6_washOne_221 (by decide) ?_
        refine lv_aload_n hx hb dX6_washOne_223 rfl (lv_at hl 0 rfl) ?_
        refine h_getC (n := 7) (j := 207) (sh := (1, 90)) Z hS cls_14 hu0 (by decide) rfl rfl rfl fl_X6_22_14 dX6_washOne_224 (fun hc45 => ?_)
        refine lv_bipush (v := (10 : Int32)) hx hb dX6_washOne_227 (by decide) ?_
        refine lv_iload_n hx hb dX6_washOne_229 rfl (lv_at hl 1 rfl) ?_
        refine lv_imul hx hb dX6_washOne_230 ?_
        refine lv_iload_n hx hb dX6_washOne_231 rfl (lv_at hl 2 rfl) ?_
        refine lv_iadd hx hb dX6_washOne_232 ?_
        refine h_iald Z hS hc45 dX6_washOne_233 h (fun x46 h => ?_)
        refine lv_iconst (v := (1 : Int32)) hx hb dX6_washOne_234 (by decide) ?_
        refine lv_iadd hx hb dX6_washOne_235 ?_
        refine y_imin hx hb (hl.1 ▸ Z.2.2.2.2.1) Z.2.2.2.2.2 q1593 (by decide) (Nat.le_of_ble_eq_true rfl) (Nat.zero_le _) (Nat.zero_le _) dX6_washOne_236 ?_
        refine h_iast Z hS hc44 dX6_washOne_239 h (fun σ47 H locs hS h => ?_)
        refine lv_iinc (v := (v2 + (1 : Int32))) (lv' := [(2, .int (v2 + (1 : Int32))), (0, .ref (ad 200)), (1, .int u1)]) hx hb dX6_washOne_240 hl (k := 2) rfl rfl (by decide) rfl (fun ls hl => ?_)
        refine lv_goto (tgt := 186) hx hb dX6_washOne_243 (by decide) ?_
        exact ih _ _ _ _ _ hS (lv_sub hl [1, 2, 0] rfl) h
set_option maxRecDepth 100000 in
set_option maxHeartbeats 4000000 in
theorem w_X6_washOne {a1 : Int32} (hi0 : S 200 = (24, 0)) {r : Mem} (h : f_X6_washOne σ a1 = some r) : Met l yX6_washOne (ws_ yX6_washOne cX6_washOne 10 none) rm_X6_washOne (va_Pc [.ref (ad 200), .int a1] (PreG D (Ew D A) A ad S σ)) (QG D A ad S none r) 0 0 A := by
  refine y_met (by decide) (Nat.le_of_ble_eq_true rfl) (fun p e s m below meth c ls Z hS hl => ?_)
  have hx := Z.1
  have hb := Z.2.1
  have hown := Z.2.2.2.2.2.1
  have hts := Z.2.2.2.2.2.2.1
  unfold f_X6_washOne at h
  refine lv_iconst (v := (0 : Int32)) hx hb dX6_washOne_0 (by decide) ?_
  refine lv_istore_n (lv' := [(2, .int (0 : Int32)), (0, .ref (ad 200)), (1, .int a1)]) hx hb dX6_washOne_1 rfl hl (by decide) rfl (fun ls hl => ?_)
  refine w_X6_washOne_L2 Z hi0 (fun σ35 H locs ls hS hl h => ?_) FU _ _ _ _ _ hS (lv_sub hl [1, 2, 0] rfl) h
  refine lv_iconst (v := (0 : Int32)) hx hb dX6_washOne_184 (by decide) ?_
  refine lv_istore_n (lv' := [(2, .int (0 : Int32)), (0, .ref (ad 200)), (1, .int a1)]) hx hb dX6_washOne_185 rfl hl (by decide) rfl (fun ls hl => ?_)
  refine w_X6_washOne_L186 Z hi0 (fun σ48 H locs ls hS hl h => ?_) FU _ _ _ _ _ hS (lv_sub hl [1, 2, 0] rfl) h
  refine lv_aload_n hx hb dX6_washOne_246 rfl (lv_at hl 0 rfl) ?_
  refine h_getC (n := 17) (j := 217) (sh := (1, 9)) Z hS cls_14 hi0 (by decide) rfl rfl rfl fl_X6_52_14 dX6_washOne_247 (fun hc49 => ?_)
  refine lv_iload_n hx hb dX6_washOne_250 rfl (lv_at hl 1 rfl) ?_
  refine lv_iconst (v := (0 : Int32)) hx hb dX6_washOne_251 (by decide) ?_
  refine h_iast Z hS hc49 dX6_washOne_252 h (fun σ50 H locs hS h => ?_)
  refine lv_aload_n hx hb dX6_washOne_253 rfl (lv_at hl 0 rfl) ?_
  refine h_getC (n := 18) (j := 218) (sh := (1, 9)) Z hS cls_14 hi0 (by decide) rfl rfl rfl fl_X6_55_14 dX6_washOne_254 (fun hc51 => ?_)
  refine lv_iload_n hx hb dX6_washOne_257 rfl (lv_at hl 1 rfl) ?_
  refine lv_dup2_11 hx hb dX6_washOne_258 rfl rfl ?_
  refine h_iald Z hS hc51 dX6_washOne_259 h (fun x52 h => ?_)
  refine lv_iconst (v := (1 : Int32)) hx hb dX6_washOne_260 (by decide) ?_
  refine lv_iadd hx hb dX6_washOne_261 ?_
  refine h_iast Z hS hc51 dX6_washOne_262 h (fun σ53 H locs hS h => ?_)
  exact h_vret Z hS dX6_washOne_263 h
end
theorem dX6_weightOf_0 : decode cX6_weightOf 0 = .ok (.aload_n 0, 1) := by decide +kernel
theorem dX6_weightOf_1 : decode cX6_weightOf 1 = .ok (.iload_n 1, 1) := by decide +kernel
theorem dX6_weightOf_2 : decode cX6_weightOf 2 = .ok (.invokevirtual 192, 3) := by decide +kernel
theorem dX6_weightOf_5 : decode cX6_weightOf 5 = .ok (.istore_n 2, 1) := by decide +kernel
theorem dX6_weightOf_6 : decode cX6_weightOf 6 = .ok (.iload_n 2, 1) := by decide +kernel
theorem dX6_weightOf_7 : decode cX6_weightOf 7 = .ok (.iconst (-1), 1) := by decide +kernel
theorem dX6_weightOf_8 : decode cX6_weightOf 8 = .ok (.if_icmp .ne 7, 3) := by decide +kernel
theorem dX6_weightOf_11 : decode cX6_weightOf 11 = .ok (.iconst 0, 1) := by decide +kernel
theorem dX6_weightOf_12 : decode cX6_weightOf 12 = .ok (.goto 18, 3) := by decide +kernel
theorem dX6_weightOf_15 : decode cX6_weightOf 15 = .ok (.ldc_w 329, 3) := by decide +kernel
theorem dX6_weightOf_18 : decode cX6_weightOf 18 = .ok (.iconst 1, 1) := by decide +kernel
theorem dX6_weightOf_19 : decode cX6_weightOf 19 = .ok (.iload_n 2, 1) := by decide +kernel
theorem dX6_weightOf_20 : decode cX6_weightOf 20 = .ok (.aload_n 0, 1) := by decide +kernel
theorem dX6_weightOf_21 : decode cX6_weightOf 21 = .ok (.iload_n 1, 1) := by decide +kernel
theorem dX6_weightOf_22 : decode cX6_weightOf 22 = .ok (.invokevirtual 195, 3) := by decide +kernel
theorem dX6_weightOf_25 : decode cX6_weightOf 25 = .ok (.iadd, 1) := by decide +kernel
theorem dX6_weightOf_26 : decode cX6_weightOf 26 = .ok (.invokestatic 172, 3) := by decide +kernel
theorem dX6_weightOf_29 : decode cX6_weightOf 29 = .ok (.idiv, 1) := by decide +kernel
theorem dX6_weightOf_30 : decode cX6_weightOf 30 = .ok (.ireturn, 1) := by decide +kernel
abbrev rm_X6_weightOf : Room := k2_rm 4 81
section
variable {p : Program} {l : Launch} {e : Env} {s : State} {m : MethodId} {args : Array Value} {below : List Frame} {meth : Method} {c : Code} {D : gD} {A : Nat → Prop} {ad : Nat → Nat} {S : Nat → Nat × Nat} {σ : Mem}
set_option maxRecDepth 100000 in
set_option maxHeartbeats 4000000 in
theorem w_X6_weightOf {a1 : Int32} (hi0 : S 200 = (24, 0)) {r : Int32} (h : f_X6_weightOf σ a1 = some r) : Met l yX6_weightOf (ws_ yX6_weightOf cX6_weightOf 3 (some .int)) rm_X6_weightOf (va_Pc [.ref (ad 200), .int a1] (PreG D (Ew D A) A ad S σ)) (QG D A ad S (some (.int r)) σ) 0 0 A := by
  refine y_met (by decide) (Nat.le_of_ble_eq_true rfl) (fun p e s m below meth c ls Z hS hl => ?_)
  have hx := Z.1
  have hb := Z.2.1
  have hown := Z.2.2.2.2.2.1
  have hts := Z.2.2.2.2.2.2.1
  unfold f_X6_weightOf at h
  refine lv_aload_n hx hb dX6_weightOf_0 rfl (lv_at hl 0 rfl) ?_
  refine lv_iload_n hx hb dX6_weightOf_1 rfl (lv_at hl 1 rfl) ?_
  refine h_ci hS h (fun z hz => h_rV (rest := []) Z hS hi0 rfl v_X6_192 (w_X6_bed hi0 hz) rfl rfl ⟨by decide, by decide⟩ rfl hl.1 rfl (Nat.le_of_ble_eq_true rfl) (Nat.zero_le _) (Nat.zero_le _) dX6_weightOf_2) (fun x1 H locs hS h => ?_)
  refine lv_istore_n (lv' := [(2, .int x1), (0, .ref (ad 200)), (1, .int a1)]) hx hb dX6_weightOf_5 rfl hl (by decide) rfl (fun ls hl => ?_)
  refine lv_iload_n hx hb dX6_weightOf_6 rfl (lv_at hl 0 rfl) ?_
  refine lv_iconst (v := (-1 : Int32)) hx hb dX6_weightOf_7 (by decide) ?_
  refine lv_icmp_ne (tgt := 15) hx hb dX6_weightOf_8 (by decide) (fun c2 => ?_) (fun c2 => ?_)
  · have h := if_f h c2
    refine lv_ldcw (v := (1000000 : Int32)) hx hb hown (hts _ q1607) dX6_weightOf_15 ?_
    refine lv_iconst (v := (1 : Int32)) hx hb dX6_weightOf_18 (by decide) ?_
    refine lv_iload_n hx hb dX6_weightOf_19 rfl (lv_at hl 0 rfl) ?_
    refine lv_aload_n hx hb dX6_weightOf_20 rfl (lv_at hl 1 rfl) ?_
    refine lv_iload_n hx hb dX6_weightOf_21 rfl (lv_at hl 2 rfl) ?_
    refine h_ci hS h (fun z hz => h_rV (rest := [.int x1, .int (1 : Int32), .int (1000000 : Int32)]) Z hS hi0 rfl v_X6_195 (w_X6_cakeOf hi0 hz) rfl rfl ⟨by decide, by decide⟩ rfl hl.1 rfl (Nat.le_of_ble_eq_true rfl) (Nat.zero_le _) (Nat.zero_le _) dX6_weightOf_22) (fun x3 H locs hS h => ?_)
    refine lv_iadd hx hb dX6_weightOf_25 ?_
    refine y_imax hx hb (hl.1 ▸ Z.2.2.2.2.1) Z.2.2.2.2.2 q1428 (by decide) (Nat.le_of_ble_eq_true rfl) (Nat.zero_le _) (Nat.zero_le _) dX6_weightOf_26 ?_
    refine h_idiv Z dX6_weightOf_29 h (fun h => ?_)
    exact h_iret Z hS dX6_weightOf_30 h
  · have h := if_t h c2
    refine lv_iconst (v := (0 : Int32)) hx hb dX6_weightOf_11 (by decide) ?_
    refine lv_goto (tgt := 30) hx hb dX6_weightOf_12 (by decide) ?_
    exact h_iret Z hS dX6_weightOf_30 h
end
theorem dX6_look_2_0 : decode cX6_look_2 0 = .ok (.iconst 0, 1) := by decide +kernel
theorem dX6_look_2_1 : decode cX6_look_2 1 = .ok (.istore_n 2, 1) := by decide +kernel
theorem dX6_look_2_2 : decode cX6_look_2 2 = .ok (.iload_n 2, 1) := by decide +kernel
theorem dX6_look_2_3 : decode cX6_look_2 3 = .ok (.aload_n 0, 1) := by decide +kernel
theorem dX6_look_2_4 : decode cX6_look_2 4 = .ok (.getfield 19, 3) := by decide +kernel
theorem dX6_look_2_7 : decode cX6_look_2 7 = .ok (.iload_n 1, 1) := by decide +kernel
theorem dX6_look_2_8 : decode cX6_look_2 8 = .ok (.iaload, 1) := by decide +kernel
theorem dX6_look_2_9 : decode cX6_look_2 9 = .ok (.if_icmp .ge 21, 3) := by decide +kernel
theorem dX6_look_2_12 : decode cX6_look_2 12 = .ok (.aload_n 0, 1) := by decide +kernel
theorem dX6_look_2_13 : decode cX6_look_2 13 = .ok (.getfield 120, 3) := by decide +kernel
theorem dX6_look_2_16 : decode cX6_look_2 16 = .ok (.iload_n 2, 1) := by decide +kernel
theorem dX6_look_2_17 : decode cX6_look_2 17 = .ok (.aload_n 0, 1) := by decide +kernel
theorem dX6_look_2_18 : decode cX6_look_2 18 = .ok (.iload_n 1, 1) := by decide +kernel
theorem dX6_look_2_19 : decode cX6_look_2 19 = .ok (.iload_n 2, 1) := by decide +kernel
theorem dX6_look_2_20 : decode cX6_look_2 20 = .ok (.invokevirtual 185, 3) := by decide +kernel
theorem dX6_look_2_23 : decode cX6_look_2 23 = .ok (.iastore, 1) := by decide +kernel
theorem dX6_look_2_24 : decode cX6_look_2 24 = .ok (.iinc 2 1, 3) := by decide +kernel
theorem dX6_look_2_27 : decode cX6_look_2 27 = .ok (.goto (-25), 3) := by decide +kernel
theorem dX6_look_2_30 : decode cX6_look_2 30 = .ok (.return_, 1) := by decide +kernel
abbrev rm_X6_look_2 : Room := k2_rm 3 57
section
variable {p : Program} {l : Launch} {e : Env} {s : State} {m : MethodId} {args : Array Value} {below : List Frame} {meth : Method} {c : Code} {D : gD} {A : Nat → Prop} {ad : Nat → Nat} {S : Nat → Nat × Nat} {σ : Mem}
set_option maxRecDepth 100000 in
set_option maxHeartbeats 4000000 in
theorem w_X6_look_2_L2 (Z : Cz D (Ew D A) A cX6_look_2 3 none RX6 p s m args meth c) {u1 : Int32} (hu0 : S 200 = (24, 0)) {r : Mem} {k30 : Mem → Option Mem}
    (hk30 : ∀ (σ : Mem)  (H : Heap) (locs : List Loc) (ls : Array Slot), St D A ad S σ s.heap H locs → lv_has ls 3 [] → k30 σ = some r → W p l e rm_X6_look_2 s m args below meth c H locs 0 0 (MQ below (QG D A ad S none r) args s 0 0 A) (F0 m 30 ls [])) :
    ∀ (n : Nat) (σ : Mem) (v2 : Int32) (H : Heap) (locs : List Loc) (ls : Array Slot), St D A ad S σ s.heap H locs → lv_has ls 3 [(0, .ref (ad 200)), (1, .int u1), (2, .int v2)] → f_X6_look_2_L2 k30 u1 n σ v2 = some r → W p l e rm_X6_look_2 s m args below meth c H locs 0 0 (MQ below (QG D A ad S none r) args s 0 0 A) (F0 m 2 ls []) := by
  have hx := Z.1
  have hb := Z.2.1
  have hown := Z.2.2.2.2.2.1
  have hts := Z.2.2.2.2.2.2.1
  intro n
  induction n with
  | zero => intro σ v2 H locs ls hS hl h; cases h
  | succ n ih =>
    intro σ v2 H locs ls hS hl h
    unfold f_X6_look_2_L2 at h
    refine lv_iload_n hx hb dX6_look_2_2 rfl (lv_at hl 2 rfl) ?_
    refine lv_aload_n hx hb dX6_look_2_3 rfl (lv_at hl 0 rfl) ?_
    refine h_getC (n := 6) (j := 206) (sh := (1, 9)) Z hS cls_14 hu0 (by decide) rfl rfl rfl fl_X6_19_14 dX6_look_2_4 (fun hc1 => ?_)
    refine lv_iload_n hx hb dX6_look_2_7 rfl (lv_at hl 1 rfl) ?_
    refine h_iald Z hS hc1 dX6_look_2_8 h (fun x2 h => ?_)
    refine lv_icmp_ge (tgt := 30) hx hb dX6_look_2_9 (by decide) (fun c3 => ?_) (fun c3 => ?_)
    · have h := if_t h c3
      exact hk30 _ _ _ _ hS (lv_sub hl [] rfl) h
    · have h := if_f h c3
      refine lv_aload_n hx hb dX6_look_2_12 rfl (lv_at hl 0 rfl) ?_
      refine h_getC (n := 47) (j := 247) (sh := (1, 10)) Z hS cls_14 hu0 (by decide) rfl rfl rfl fl_X6_120_14 dX6_look_2_13 (fun hc4 => ?_)
      refine lv_iload_n hx hb dX6_look_2_16 rfl (lv_at hl 2 rfl) ?_
      refine lv_aload_n hx hb dX6_look_2_17 rfl (lv_at hl 0 rfl) ?_
      refine lv_iload_n hx hb dX6_look_2_18 rfl (lv_at hl 1 rfl) ?_
      refine lv_iload_n hx hb dX6_look_2_19 rfl (lv_at hl 2 rfl) ?_
      refine h_ci hS h (fun z hz => h_rV (rest := [.int v2, .ref (ad 247)]) Z hS hu0 rfl v_X6_185 (w_X6_width hu0 hz) rfl rfl ⟨by decide, by decide⟩ rfl hl.1 rfl (Nat.le_of_ble_eq_true rfl) (Nat.zero_le _) (Nat.zero_le _) dX6_look_2_20) (fun x5 H locs hS h => ?_)
      refine h_iast Z hS hc4 dX6_look_2_23 h (fun σ6 H locs hS h => ?_)
      refine lv_iinc (v := (v2 + (1 : Int32))) (lv' := [(2, .int (v2 + (1 : Int32))), (0, .ref (ad 200)), (1, .int u1)]) hx hb dX6_look_2_24 hl (k := 2) rfl rfl (by decide) rfl (fun ls hl => ?_)
      refine lv_goto (tgt := 2) hx hb dX6_look_2_27 (by decide) ?_
      exact ih _ _ _ _ _ hS (lv_sub hl [1, 2, 0] rfl) h
set_option maxRecDepth 100000 in
set_option maxHeartbeats 4000000 in
theorem w_X6_look_2 {a1 : Int32} (hi0 : S 200 = (24, 0)) {r : Mem} (h : f_X6_look_2 σ a1 = some r) : Met l yX6_look_2 (ws_ yX6_look_2 cX6_look_2 3 none) rm_X6_look_2 (va_Pc [.ref (ad 200), .int a1] (PreG D (Ew D A) A ad S σ)) (QG D A ad S none r) 0 0 A := by
  refine y_met (by decide) (Nat.le_of_ble_eq_true rfl) (fun p e s m below meth c ls Z hS hl => ?_)
  have hx := Z.1
  have hb := Z.2.1
  have hown := Z.2.2.2.2.2.1
  have hts := Z.2.2.2.2.2.2.1
  unfold f_X6_look_2 at h
  refine lv_iconst (v := (0 : Int32)) hx hb dX6_look_2_0 (by decide) ?_
  refine lv_istore_n (lv' := [(2, .int (0 : Int32)), (0, .ref (ad 200)), (1, .int a1)]) hx hb dX6_look_2_1 rfl hl (by decide) rfl (fun ls hl => ?_)
  refine w_X6_look_2_L2 Z hi0 (fun σ7 H locs ls hS hl h => ?_) FU _ _ _ _ _ hS (lv_sub hl [1, 2, 0] rfl) h
  exact h_vret Z hS dX6_look_2_30 h
end
theorem dX6_tell_0 : decode cX6_tell 0 = .ok (.aload_n 0, 1) := by decide +kernel
theorem dX6_tell_1 : decode cX6_tell 1 = .ok (.getfield 99, 3) := by decide +kernel
theorem dX6_tell_4 : decode cX6_tell 4 = .ok (.iconst 3, 1) := by decide +kernel
theorem dX6_tell_5 : decode cX6_tell 5 = .ok (.bipush 8, 2) := by decide +kernel
theorem dX6_tell_7 : decode cX6_tell 7 = .ok (.aload_n 0, 1) := by decide +kernel
theorem dX6_tell_8 : decode cX6_tell 8 = .ok (.getfield 330, 3) := by decide +kernel
theorem dX6_tell_11 : decode cX6_tell 11 = .ok (.imul, 1) := by decide +kernel
theorem dX6_tell_12 : decode cX6_tell 12 = .ok (.iload_n 1, 1) := by decide +kernel
theorem dX6_tell_13 : decode cX6_tell 13 = .ok (.iadd, 1) := by decide +kernel
theorem dX6_tell_14 : decode cX6_tell 14 = .ok (.imul, 1) := by decide +kernel
theorem dX6_tell_15 : decode cX6_tell 15 = .ok (.iload_n 2, 1) := by decide +kernel
theorem dX6_tell_16 : decode cX6_tell 16 = .ok (.iadd, 1) := by decide +kernel
theorem dX6_tell_17 : decode cX6_tell 17 = .ok (.dup2, 1) := by decide +kernel
theorem dX6_tell_18 : decode cX6_tell 18 = .ok (.iaload, 1) := by decide +kernel
theorem dX6_tell_19 : decode cX6_tell 19 = .ok (.iload_n 3, 1) := by decide +kernel
theorem dX6_tell_20 : decode cX6_tell 20 = .ok (.iadd, 1) := by decide +kernel
theorem dX6_tell_21 : decode cX6_tell 21 = .ok (.iastore, 1) := by decide +kernel
theorem dX6_tell_22 : decode cX6_tell 22 = .ok (.aload_n 0, 1) := by decide +kernel
theorem dX6_tell_23 : decode cX6_tell 23 = .ok (.getfield 108, 3) := by decide +kernel
theorem dX6_tell_26 : decode cX6_tell 26 = .ok (.bipush 6, 2) := by decide +kernel
theorem dX6_tell_28 : decode cX6_tell 28 = .ok (.iload_n 1, 1) := by decide +kernel
theorem dX6_tell_29 : decode cX6_tell 29 = .ok (.imul, 1) := by decide +kernel
theorem dX6_tell_30 : decode cX6_tell 30 = .ok (.iload_n 2, 1) := by decide +kernel
theorem dX6_tell_31 : decode cX6_tell 31 = .ok (.ifCond .ne 7, 3) := by decide +kernel
theorem dX6_tell_34 : decode cX6_tell 34 = .ok (.iconst 0, 1) := by decide +kernel
theorem dX6_tell_35 : decode cX6_tell 35 = .ok (.goto 6, 3) := by decide +kernel
theorem dX6_tell_38 : decode cX6_tell 38 = .ok (.iload_n 2, 1) := by decide +kernel
theorem dX6_tell_39 : decode cX6_tell 39 = .ok (.iconst 3, 1) := by decide +kernel
theorem dX6_tell_40 : decode cX6_tell 40 = .ok (.iadd, 1) := by decide +kernel
theorem dX6_tell_41 : decode cX6_tell 41 = .ok (.iadd, 1) := by decide +kernel
theorem dX6_tell_42 : decode cX6_tell 42 = .ok (.dup2, 1) := by decide +kernel
theorem dX6_tell_43 : decode cX6_tell 43 = .ok (.iaload, 1) := by decide +kernel
theorem dX6_tell_44 : decode cX6_tell 44 = .ok (.iload_n 3, 1) := by decide +kernel
theorem dX6_tell_45 : decode cX6_tell 45 = .ok (.iadd, 1) := by decide +kernel
theorem dX6_tell_46 : decode cX6_tell 46 = .ok (.iastore, 1) := by decide +kernel
theorem dX6_tell_47 : decode cX6_tell 47 = .ok (.return_, 1) := by decide +kernel
abbrev rm_X6_tell : Room := k2_rm 0 0
section
variable {p : Program} {l : Launch} {e : Env} {s : State} {m : MethodId} {args : Array Value} {below : List Frame} {meth : Method} {c : Code} {D : gD} {A : Nat → Prop} {ad : Nat → Nat} {S : Nat → Nat × Nat} {σ : Mem}
set_option maxRecDepth 100000 in
set_option maxHeartbeats 4000000 in
theorem w_X6_tell {a1 : Int32} {a2 : Int32} {a3 : Int32} (hi0 : S 200 = (24, 0)) {r : Mem} (h : f_X6_tell σ a1 a2 a3 = some r) : Met l yX6_tell (ws_ yX6_tell cX6_tell 4 none) rm_X6_tell (va_Pc [.ref (ad 200), .int a1, .int a2, .int a3] (PreG D (Ew D A) A ad S σ)) (QG D A ad S none r) 0 0 A := by
  refine y_met (by decide) (Nat.le_of_ble_eq_true rfl) (fun p e s m below meth c ls Z hS hl => ?_)
  have hx := Z.1
  have hb := Z.2.1
  have hown := Z.2.2.2.2.2.1
  have hts := Z.2.2.2.2.2.2.1
  unfold f_X6_tell at h
  refine lv_aload_n hx hb dX6_tell_0 rfl (lv_at hl 0 rfl) ?_
  refine h_getC (n := 40) (j := 240) (sh := (1, 48024)) Z hS cls_14 hi0 (by decide) rfl rfl rfl fl_X6_99_14 dX6_tell_1 (fun hc1 => ?_)
  refine lv_iconst (v := (3 : Int32)) hx hb dX6_tell_4 (by decide) ?_
  refine lv_bipush (v := (8 : Int32)) hx hb dX6_tell_5 (by decide) ?_
  refine lv_aload_n hx hb dX6_tell_7 rfl (lv_at hl 0 rfl) ?_
  refine h_getI Z hS cls_14 hi0 (by decide) rfl fl_X6_330_14 dX6_tell_8 h (fun x2 h => ?_)
  refine lv_imul hx hb dX6_tell_11 ?_
  refine lv_iload_n hx hb dX6_tell_12 rfl (lv_at hl 1 rfl) ?_
  refine lv_iadd hx hb dX6_tell_13 ?_
  refine lv_imul hx hb dX6_tell_14 ?_
  refine lv_iload_n hx hb dX6_tell_15 rfl (lv_at hl 2 rfl) ?_
  refine lv_iadd hx hb dX6_tell_16 ?_
  refine lv_dup2_11 hx hb dX6_tell_17 rfl rfl ?_
  refine h_iald Z hS hc1 dX6_tell_18 h (fun x3 h => ?_)
  refine lv_iload_n hx hb dX6_tell_19 rfl (lv_at hl 3 rfl) ?_
  refine lv_iadd hx hb dX6_tell_20 ?_
  refine h_iast Z hS hc1 dX6_tell_21 h (fun σ4 H locs hS h => ?_)
  refine lv_aload_n hx hb dX6_tell_22 rfl (lv_at hl 0 rfl) ?_
  refine h_getC (n := 43) (j := 243) (sh := (1, 48)) Z hS cls_14 hi0 (by decide) rfl rfl rfl fl_X6_108_14 dX6_tell_23 (fun hc5 => ?_)
  refine lv_bipush (v := (6 : Int32)) hx hb dX6_tell_26 (by decide) ?_
  refine lv_iload_n hx hb dX6_tell_28 rfl (lv_at hl 1 rfl) ?_
  refine lv_imul hx hb dX6_tell_29 ?_
  refine lv_iload_n hx hb dX6_tell_30 rfl (lv_at hl 2 rfl) ?_
  obtain ⟨x7, hp8, h⟩ := bnd_el h
  have K8 : ∀ (H : Heap) (locs : List Loc) (ls : Array Slot), St D A ad S σ4 s.heap H locs → lv_has ls 4 [(3, .int a3)] → W p l e rm_X6_tell s m ([.ref (ad 200), .int a1, .int a2, .int a3] : List Value).toArray below meth c H locs 0 0 (MQ below (QG D A ad S none r) ([.ref (ad 200), .int a1, .int a2, .int a3] : List Value).toArray s 0 0 A) (F0 m 41 ls [.int x7, .int ((6 : Int32) * a1), .ref (ad 243)]) := by
    intro H locs ls hS hl
    refine lv_iadd hx hb dX6_tell_41 ?_
    refine lv_dup2_11 hx hb dX6_tell_42 rfl rfl ?_
    refine h_iald Z hS hc5 dX6_tell_43 h (fun x9 h => ?_)
    refine lv_iload_n hx hb dX6_tell_44 rfl (lv_at hl 0 rfl) ?_
    refine lv_iadd hx hb dX6_tell_45 ?_
    refine h_iast Z hS hc5 dX6_tell_46 h (fun σ10 H locs hS h => ?_)
    exact h_vret Z hS dX6_tell_47 h
  clear h
  have h := hp8
  clear hp8
  refine lv_if_ne (tgt := 38) hx hb dX6_tell_31 (by decide) (fun c6 => ?_) (fun c6 => ?_)
  · have h := if_f h c6
    refine lv_iload_n hx hb dX6_tell_38 rfl (lv_at hl 2 rfl) ?_
    refine lv_iconst (v := (3 : Int32)) hx hb dX6_tell_39 (by decide) ?_
    refine lv_iadd hx hb dX6_tell_40 ?_
    cases h
    exact K8 _ _ _ hS (lv_sub hl [3] rfl)
  · have h := if_t h c6
    refine lv_iconst (v := (0 : Int32)) hx hb dX6_tell_34 (by decide) ?_
    refine lv_goto (tgt := 41) hx hb dX6_tell_35 (by decide) ?_
    cases h
    exact K8 _ _ _ hS (lv_sub hl [3] rfl)
end
theorem dX6_partOf_0 : decode cX6_partOf 0 = .ok (.aload_n 0, 1) := by decide +kernel
theorem dX6_partOf_1 : decode cX6_partOf 1 = .ok (.getfield 95, 3) := by decide +kernel
theorem dX6_partOf_4 : decode cX6_partOf 4 = .ok (.iload_n 2, 1) := by decide +kernel
theorem dX6_partOf_5 : decode cX6_partOf 5 = .ok (.iaload, 1) := by decide +kernel
theorem dX6_partOf_6 : decode cX6_partOf 6 = .ok (.i2l, 1) := by decide +kernel
theorem dX6_partOf_7 : decode cX6_partOf 7 = .ok (.aload_n 0, 1) := by decide +kernel
theorem dX6_partOf_8 : decode cX6_partOf 8 = .ok (.getfield 61, 3) := by decide +kernel
theorem dX6_partOf_11 : decode cX6_partOf 11 = .ok (.iload_n 1, 1) := by decide +kernel
theorem dX6_partOf_12 : decode cX6_partOf 12 = .ok (.iaload, 1) := by decide +kernel
theorem dX6_partOf_13 : decode cX6_partOf 13 = .ok (.i2l, 1) := by decide +kernel
theorem dX6_partOf_14 : decode cX6_partOf 14 = .ok (.lmul, 1) := by decide +kernel
theorem dX6_partOf_15 : decode cX6_partOf 15 = .ok (.aload_n 0, 1) := by decide +kernel
theorem dX6_partOf_16 : decode cX6_partOf 16 = .ok (.getfield 319, 3) := by decide +kernel
theorem dX6_partOf_19 : decode cX6_partOf 19 = .ok (.i2l, 1) := by decide +kernel
theorem dX6_partOf_20 : decode cX6_partOf 20 = .ok (.ldiv, 1) := by decide +kernel
theorem dX6_partOf_21 : decode cX6_partOf 21 = .ok (.l2i, 1) := by decide +kernel
theorem dX6_partOf_22 : decode cX6_partOf 22 = .ok (.istore_n 3, 1) := by decide +kernel
theorem dX6_partOf_23 : decode cX6_partOf 23 = .ok (.aload_n 0, 1) := by decide +kernel
theorem dX6_partOf_24 : decode cX6_partOf 24 = .ok (.getfield 95, 3) := by decide +kernel
theorem dX6_partOf_27 : decode cX6_partOf 27 = .ok (.iload_n 2, 1) := by decide +kernel
theorem dX6_partOf_28 : decode cX6_partOf 28 = .ok (.iaload, 1) := by decide +kernel
theorem dX6_partOf_29 : decode cX6_partOf 29 = .ok (.istore 4, 2) := by decide +kernel
theorem dX6_partOf_31 : decode cX6_partOf 31 = .ok (.iconst 0, 1) := by decide +kernel
theorem dX6_partOf_32 : decode cX6_partOf 32 = .ok (.istore 5, 2) := by decide +kernel
theorem dX6_partOf_34 : decode cX6_partOf 34 = .ok (.iconst 0, 1) := by decide +kernel
theorem dX6_partOf_35 : decode cX6_partOf 35 = .ok (.istore 6, 2) := by decide +kernel
theorem dX6_partOf_37 : decode cX6_partOf 37 = .ok (.iload 6, 2) := by decide +kernel
theorem dX6_partOf_39 : decode cX6_partOf 39 = .ok (.aload_n 0, 1) := by decide +kernel
theorem dX6_partOf_40 : decode cX6_partOf 40 = .ok (.getfield 165, 3) := by decide +kernel
theorem dX6_partOf_43 : decode cX6_partOf 43 = .ok (.if_icmp .ge 63, 3) := by decide +kernel
theorem dX6_partOf_46 : decode cX6_partOf 46 = .ok (.iload 4, 2) := by decide +kernel
theorem dX6_partOf_48 : decode cX6_partOf 48 = .ok (.aload_n 0, 1) := by decide +kernel
theorem dX6_partOf_49 : decode cX6_partOf 49 = .ok (.getfield 95, 3) := by decide +kernel
theorem dX6_partOf_52 : decode cX6_partOf 52 = .ok (.iload_n 2, 1) := by decide +kernel
theorem dX6_partOf_53 : decode cX6_partOf 53 = .ok (.iaload, 1) := by decide +kernel
theorem dX6_partOf_54 : decode cX6_partOf 54 = .ok (.i2l, 1) := by decide +kernel
theorem dX6_partOf_55 : decode cX6_partOf 55 = .ok (.aload_n 0, 1) := by decide +kernel
theorem dX6_partOf_56 : decode cX6_partOf 56 = .ok (.getfield 61, 3) := by decide +kernel
theorem dX6_partOf_59 : decode cX6_partOf 59 = .ok (.iload 6, 2) := by decide +kernel
theorem dX6_partOf_61 : decode cX6_partOf 61 = .ok (.iaload, 1) := by decide +kernel
theorem dX6_partOf_62 : decode cX6_partOf 62 = .ok (.i2l, 1) := by decide +kernel
theorem dX6_partOf_63 : decode cX6_partOf 63 = .ok (.lmul, 1) := by decide +kernel
theorem dX6_partOf_64 : decode cX6_partOf 64 = .ok (.aload_n 0, 1) := by decide +kernel
theorem dX6_partOf_65 : decode cX6_partOf 65 = .ok (.getfield 319, 3) := by decide +kernel
theorem dX6_partOf_68 : decode cX6_partOf 68 = .ok (.i2l, 1) := by decide +kernel
theorem dX6_partOf_69 : decode cX6_partOf 69 = .ok (.ldiv, 1) := by decide +kernel
theorem dX6_partOf_70 : decode cX6_partOf 70 = .ok (.l2i, 1) := by decide +kernel
theorem dX6_partOf_71 : decode cX6_partOf 71 = .ok (.isub, 1) := by decide +kernel
theorem dX6_partOf_72 : decode cX6_partOf 72 = .ok (.istore 4, 2) := by decide +kernel
theorem dX6_partOf_74 : decode cX6_partOf 74 = .ok (.iload 5, 2) := by decide +kernel
theorem dX6_partOf_76 : decode cX6_partOf 76 = .ok (.iload 6, 2) := by decide +kernel
theorem dX6_partOf_78 : decode cX6_partOf 78 = .ok (.iload_n 1, 1) := by decide +kernel
theorem dX6_partOf_79 : decode cX6_partOf 79 = .ok (.if_icmp .ge 17, 3) := by decide +kernel
theorem dX6_partOf_82 : decode cX6_partOf 82 = .ok (.aload_n 0, 1) := by decide +kernel
theorem dX6_partOf_83 : decode cX6_partOf 83 = .ok (.getfield 61, 3) := by decide +kernel
theorem dX6_partOf_86 : decode cX6_partOf 86 = .ok (.iload 6, 2) := by decide +kernel
theorem dX6_partOf_88 : decode cX6_partOf 88 = .ok (.iaload, 1) := by decide +kernel
theorem dX6_partOf_89 : decode cX6_partOf 89 = .ok (.ifCond .le 7, 3) := by decide +kernel
theorem dX6_partOf_92 : decode cX6_partOf 92 = .ok (.iconst 1, 1) := by decide +kernel
theorem dX6_partOf_93 : decode cX6_partOf 93 = .ok (.goto 4, 3) := by decide +kernel
theorem dX6_partOf_96 : decode cX6_partOf 96 = .ok (.iconst 0, 1) := by decide +kernel
theorem dX6_partOf_97 : decode cX6_partOf 97 = .ok (.iadd, 1) := by decide +kernel
theorem dX6_partOf_98 : decode cX6_partOf 98 = .ok (.istore 5, 2) := by decide +kernel
theorem dX6_partOf_100 : decode cX6_partOf 100 = .ok (.iinc 6 1, 3) := by decide +kernel
theorem dX6_partOf_103 : decode cX6_partOf 103 = .ok (.goto (-66), 3) := by decide +kernel
theorem dX6_partOf_106 : decode cX6_partOf 106 = .ok (.iload_n 3, 1) := by decide +kernel
theorem dX6_partOf_107 : decode cX6_partOf 107 = .ok (.iload 5, 2) := by decide +kernel
theorem dX6_partOf_109 : decode cX6_partOf 109 = .ok (.iload 4, 2) := by decide +kernel
theorem dX6_partOf_111 : decode cX6_partOf 111 = .ok (.if_icmp .ge 7, 3) := by decide +kernel
theorem dX6_partOf_114 : decode cX6_partOf 114 = .ok (.iconst 1, 1) := by decide +kernel
theorem dX6_partOf_115 : decode cX6_partOf 115 = .ok (.goto 4, 3) := by decide +kernel
theorem dX6_partOf_118 : decode cX6_partOf 118 = .ok (.iconst 0, 1) := by decide +kernel
theorem dX6_partOf_119 : decode cX6_partOf 119 = .ok (.iadd, 1) := by decide +kernel
theorem dX6_partOf_120 : decode cX6_partOf 120 = .ok (.ireturn, 1) := by decide +kernel
abbrev rm_X6_partOf : Room := k2_rm 0 0
section
variable {p : Program} {l : Launch} {e : Env} {s : State} {m : MethodId} {args : Array Value} {below : List Frame} {meth : Method} {c : Code} {D : gD} {A : Nat → Prop} {ad : Nat → Nat} {S : Nat → Nat × Nat} {σ : Mem}
set_option maxRecDepth 100000 in
set_option maxHeartbeats 4000000 in
theorem w_X6_partOf_L37 (Z : Cz D (Ew D A) A cX6_partOf 7 (some .int) RX6 p s m args meth c) {u1 : Int32} {u2 : Int32} {u3 : Int32} (hu0 : S 200 = (24, 0)) {r : Int32} {k106 : Int32 → Int32 → Option Int32}
    (hk106 : ∀ (w4 : Int32) (w5 : Int32) (H : Heap) (locs : List Loc) (ls : Array Slot), St D A ad S σ s.heap H locs → lv_has ls 7 [(3, .int u3), (4, .int w4), (5, .int w5)] → k106 w4 w5 = some r → W p l e rm_X6_partOf s m args below meth c H locs 0 0 (MQ below (QG D A ad S (some (.int r)) σ) args s 0 0 A) (F0 m 106 ls [])) :
    ∀ (n : Nat) (v4 : Int32) (v5 : Int32) (v6 : Int32) (H : Heap) (locs : List Loc) (ls : Array Slot), St D A ad S σ s.heap H locs → lv_has ls 7 [(0, .ref (ad 200)), (1, .int u1), (2, .int u2), (3, .int u3), (4, .int v4), (5, .int v5), (6, .int v6)] → f_X6_partOf_L37 k106 σ u1 u2 u3 n v4 v5 v6 = some r → W p l e rm_X6_partOf s m args below meth c H locs 0 0 (MQ below (QG D A ad S (some (.int r)) σ) args s 0 0 A) (F0 m 37 ls []) := by
  have hx := Z.1
  have hb := Z.2.1
  have hown := Z.2.2.2.2.2.1
  have hts := Z.2.2.2.2.2.2.1
  intro n
  induction n with
  | zero => intro v4 v5 v6 H locs ls hS hl h; cases h
  | succ n ih =>
    intro v4 v5 v6 H locs ls hS hl h
    unfold f_X6_partOf_L37 at h
    refine lv_iload hx hb dX6_partOf_37 (lv_at hl 6 rfl) ?_
    refine lv_aload_n hx hb dX6_partOf_39 rfl (lv_at hl 0 rfl) ?_
    refine h_getI Z hS cls_14 hu0 (by decide) rfl fl_X6_165_14 dX6_partOf_40 h (fun x9 h => ?_)
    refine lv_icmp_ge (tgt := 106) hx hb dX6_partOf_43 (by decide) (fun c10 => ?_) (fun c10 => ?_)
    · have h := if_t h c10
      exact hk106 _ _ _ _ _ hS (lv_sub hl [3, 4, 5] rfl) h
    · have h := if_f h c10
      refine lv_iload hx hb dX6_partOf_46 (lv_at hl 4 rfl) ?_
      refine lv_aload_n hx hb dX6_partOf_48 rfl (lv_at hl 0 rfl) ?_
      refine h_getC (n := 39) (j := 239) (sh := (1, 8)) Z hS cls_14 hu0 (by decide) rfl rfl rfl fl_X6_95_14 dX6_partOf_49 (fun hc11 => ?_)
      refine lv_iload_n hx hb dX6_partOf_52 rfl (lv_at hl 2 rfl) ?_
      refine h_iald Z hS hc11 dX6_partOf_53 h (fun x12 h => ?_)
      refine lv_i2l hx hb dX6_partOf_54 rfl ?_
      refine lv_aload_n hx hb dX6_partOf_55 rfl (lv_at hl 0 rfl) ?_
      refine h_getC (n := 20) (j := 220) (sh := (1, 9)) Z hS cls_14 hu0 (by decide) rfl rfl rfl fl_X6_61_14 dX6_partOf_56 (fun hc13 => ?_)
      refine lv_iload hx hb dX6_partOf_59 (lv_at hl 6 rfl) ?_
      refine h_iald Z hS hc13 dX6_partOf_61 h (fun x14 h => ?_)
      refine lv_i2l hx hb dX6_partOf_62 rfl ?_
      refine lv_lmul hx hb dX6_partOf_63 ?_
      refine lv_aload_n hx hb dX6_partOf_64 rfl (lv_at hl 0 rfl) ?_
      refine h_getI Z hS cls_14 hu0 (by decide) rfl fl_X6_319_14 dX6_partOf_65 h (fun x15 h => ?_)
      refine lv_i2l hx hb dX6_partOf_68 rfl ?_
      refine h_ldiv Z dX6_partOf_69 h (fun h => ?_)
      refine lv_l2i hx hb dX6_partOf_70 rfl ?_
      refine lv_isub hx hb dX6_partOf_71 ?_
      refine h_leti h (fun x16 h => ?_)
      refine lv_istore (lv' := [(4, .int x16), (0, .ref (ad 200)), (1, .int u1), (2, .int u2), (3, .int u3), (5, .int v5), (6, .int v6)]) hx hb dX6_partOf_72 hl (by decide) rfl (fun ls hl => ?_)
      refine lv_iload hx hb dX6_partOf_74 (lv_at hl 5 rfl) ?_
      refine lv_iload hx hb dX6_partOf_76 (lv_at hl 6 rfl) ?_
      refine lv_iload_n hx hb dX6_partOf_78 rfl (lv_at hl 2 rfl) ?_
      obtain ⟨x18, hp19, h⟩ := bnd_el h
      have K19 : ∀ (H : Heap) (locs : List Loc) (ls : Array Slot), St D A ad S σ s.heap H locs → lv_has ls 7 [(0, .ref (ad 200)), (1, .int u1), (2, .int u2), (3, .int u3), (4, .int x16), (6, .int v6)] → W p l e rm_X6_partOf s m args below meth c H locs 0 0 (MQ below (QG D A ad S (some (.int r)) σ) args s 0 0 A) (F0 m 97 ls [.int x18, .int v5]) := by
        intro H locs ls hS hl
        refine lv_iadd hx hb dX6_partOf_97 ?_
        refine h_leti h (fun x20 h => ?_)
        refine lv_istore (lv' := [(5, .int x20), (0, .ref (ad 200)), (1, .int u1), (2, .int u2), (3, .int u3), (4, .int x16), (6, .int v6)]) hx hb dX6_partOf_98 hl (by decide) rfl (fun ls hl => ?_)
        refine lv_iinc (v := (v6 + (1 : Int32))) (lv' := [(6, .int (v6 + (1 : Int32))), (5, .int x20), (0, .ref (ad 200)), (1, .int u1), (2, .int u2), (3, .int u3), (4, .int x16)]) hx hb dX6_partOf_100 hl (k := 6) rfl rfl (by decide) rfl (fun ls hl => ?_)
        refine lv_goto (tgt := 37) hx hb dX6_partOf_103 (by decide) ?_
        exact ih _ _ _ _ _ _ hS (lv_sub hl [2, 3, 4, 5, 6, 1, 0] rfl) h
      clear h
      have h := hp19
      clear hp19
      refine lv_icmp_ge (tgt := 96) hx hb dX6_partOf_79 (by decide) (fun c17 => ?_) (fun c17 => ?_)
      · have h := if_t h c17
        refine lv_iconst (v := (0 : Int32)) hx hb dX6_partOf_96 (by decide) ?_
        cases h
        exact K19 _ _ _ hS (lv_sub hl [1, 2, 3, 4, 0, 6] rfl)
      · have h := if_f h c17
        refine lv_aload_n hx hb dX6_partOf_82 rfl (lv_at hl 1 rfl) ?_
        refine h_getC (n := 20) (j := 220) (sh := (1, 9)) Z hS cls_14 hu0 (by decide) rfl rfl rfl fl_X6_61_14 dX6_partOf_83 (fun hc21 => ?_)
        refine lv_iload hx hb dX6_partOf_86 (lv_at hl 6 rfl) ?_
        refine h_iald Z hS hc21 dX6_partOf_88 h (fun x22 h => ?_)
        refine lv_if_le (tgt := 96) hx hb dX6_partOf_89 (by decide) (fun c23 => ?_) (fun c23 => ?_)
        · have h := if_t h c23
          refine lv_iconst (v := (0 : Int32)) hx hb dX6_partOf_96 (by decide) ?_
          cases h
          exact K19 _ _ _ hS (lv_sub hl [1, 2, 3, 4, 0, 6] rfl)
        · have h := if_f h c23
          refine lv_iconst (v := (1 : Int32)) hx hb dX6_partOf_92 (by decide) ?_
          refine lv_goto (tgt := 97) hx hb dX6_partOf_93 (by decide) ?_
          cases h
          exact K19 _ _ _ hS (lv_sub hl [1, 2, 3, 4, 0, 6] rfl)
set_option maxRecDepth 100000 in
set_option maxHeartbeats 4000000 in
theorem w_X6_partOf {a1 : Int32} {a2 : Int32} (hi0 : S 200 = (24, 0)) {r : Int32} (h : f_X6_partOf σ a1 a2 = some r) : Met l yX6_partOf (ws_ yX6_partOf cX6_partOf 7 (some .int)) rm_X6_partOf (va_Pc [.ref (ad 200), .int a1, .int a2] (PreG D (Ew D A) A ad S σ)) (QG D A ad S (some (.int r)) σ) 0 0 A := by
  refine y_met (by decide) (Nat.le_of_ble_eq_true rfl) (fun p e s m below meth c ls Z hS hl => ?_)
  have hx := Z.1
  have hb := Z.2.1
  have hown := Z.2.2.2.2.2.1
  have hts := Z.2.2.2.2.2.2.1
  unfold f_X6_partOf at h
  refine lv_aload_n hx hb dX6_partOf_0 rfl (lv_at hl 0 rfl) ?_
  refine h_getC (n := 39) (j := 239) (sh := (1, 8)) Z hS cls_14 hi0 (by decide) rfl rfl rfl fl_X6_95_14 dX6_partOf_1 (fun hc1 => ?_)
  refine lv_iload_n hx hb dX6_partOf_4 rfl (lv_at hl 2 rfl) ?_
  refine h_iald Z hS hc1 dX6_partOf_5 h (fun x2 h => ?_)
  refine lv_i2l hx hb dX6_partOf_6 rfl ?_
  refine lv_aload_n hx hb dX6_partOf_7 rfl (lv_at hl 0 rfl) ?_
  refine h_getC (n := 20) (j := 220) (sh := (1, 9)) Z hS cls_14 hi0 (by decide) rfl rfl rfl fl_X6_61_14 dX6_partOf_8 (fun hc3 => ?_)
  refine lv_iload_n hx hb dX6_partOf_11 rfl (lv_at hl 1 rfl) ?_
  refine h_iald Z hS hc3 dX6_partOf_12 h (fun x4 h => ?_)
  refine lv_i2l hx hb dX6_partOf_13 rfl ?_
  refine lv_lmul hx hb dX6_partOf_14 ?_
  refine lv_aload_n hx hb dX6_partOf_15 rfl (lv_at hl 0 rfl) ?_
  refine h_getI Z hS cls_14 hi0 (by decide) rfl fl_X6_319_14 dX6_partOf_16 h (fun x5 h => ?_)
  refine lv_i2l hx hb dX6_partOf_19 rfl ?_
  refine h_ldiv Z dX6_partOf_20 h (fun h => ?_)
  refine lv_l2i hx hb dX6_partOf_21 rfl ?_
  refine h_leti h (fun x6 h => ?_)
  refine lv_istore_n (lv' := [(3, .int x6), (0, .ref (ad 200)), (1, .int a1), (2, .int a2)]) hx hb dX6_partOf_22 rfl hl (by decide) rfl (fun ls hl => ?_)
  refine lv_aload_n hx hb dX6_partOf_23 rfl (lv_at hl 1 rfl) ?_
  refine h_getC (n := 39) (j := 239) (sh := (1, 8)) Z hS cls_14 hi0 (by decide) rfl rfl rfl fl_X6_95_14 dX6_partOf_24 (fun hc7 => ?_)
  refine lv_iload_n hx hb dX6_partOf_27 rfl (lv_at hl 3 rfl) ?_
  refine h_iald Z hS hc7 dX6_partOf_28 h (fun x8 h => ?_)
  refine lv_istore (lv' := [(4, .int x8), (3, .int x6), (0, .ref (ad 200)), (1, .int a1), (2, .int a2)]) hx hb dX6_partOf_29 hl (by decide) rfl (fun ls hl => ?_)
  refine lv_iconst (v := (0 : Int32)) hx hb dX6_partOf_31 (by decide) ?_
  refine lv_istore (lv' := [(5, .int (0 : Int32)), (4, .int x8), (3, .int x6), (0, .ref (ad 200)), (1, .int a1), (2, .int a2)]) hx hb dX6_partOf_32 hl (by decide) rfl (fun ls hl => ?_)
  refine lv_iconst (v := (0 : Int32)) hx hb dX6_partOf_34 (by decide) ?_
  refine lv_istore (lv' := [(6, .int (0 : Int32)), (5, .int (0 : Int32)), (4, .int x8), (3, .int x6), (0, .ref (ad 200)), (1, .int a1), (2, .int a2)]) hx hb dX6_partOf_35 hl (by decide) rfl (fun ls hl => ?_)
  refine w_X6_partOf_L37 Z hi0 (fun x24 x25 H locs ls hS hl h => ?_) FU _ _ _ _ _ _ hS (lv_sub hl [4, 5, 6, 3, 2, 1, 0] rfl) h
  refine lv_iload_n hx hb dX6_partOf_106 rfl (lv_at hl 0 rfl) ?_
  refine lv_iload hx hb dX6_partOf_107 (lv_at hl 2 rfl) ?_
  refine lv_iload hx hb dX6_partOf_109 (lv_at hl 1 rfl) ?_
  refine lv_icmp_ge (tgt := 118) hx hb dX6_partOf_111 (by decide) (fun c26 => ?_) (fun c26 => ?_)
  · have h := if_t h c26
    refine lv_iconst (v := (0 : Int32)) hx hb dX6_partOf_118 (by decide) ?_
    refine lv_iadd hx hb dX6_partOf_119 ?_
    exact h_iret Z hS dX6_partOf_120 h
  · have h := if_f h c26
    refine lv_iconst (v := (1 : Int32)) hx hb dX6_partOf_114 (by decide) ?_
    refine lv_goto (tgt := 119) hx hb dX6_partOf_115 (by decide) ?_
    refine lv_iadd hx hb dX6_partOf_119 ?_
    exact h_iret Z hS dX6_partOf_120 h
end
theorem dX6_lead_0 : decode cX6_lead 0 = .ok (.iload_n 2, 1) := by decide +kernel
theorem dX6_lead_1 : decode cX6_lead 1 = .ok (.aload_n 0, 1) := by decide +kernel
theorem dX6_lead_2 : decode cX6_lead 2 = .ok (.getfield 120, 3) := by decide +kernel
theorem dX6_lead_5 : decode cX6_lead 5 = .ok (.iconst 0, 1) := by decide +kernel
theorem dX6_lead_6 : decode cX6_lead 6 = .ok (.iaload, 1) := by decide +kernel
theorem dX6_lead_7 : decode cX6_lead 7 = .ok (.if_icmp .lt 20, 3) := by decide +kernel
theorem dX6_lead_10 : decode cX6_lead 10 = .ok (.aload_n 0, 1) := by decide +kernel
theorem dX6_lead_11 : decode cX6_lead 11 = .ok (.getfield 37, 3) := by decide +kernel
theorem dX6_lead_14 : decode cX6_lead 14 = .ok (.bipush 8, 2) := by decide +kernel
theorem dX6_lead_16 : decode cX6_lead 16 = .ok (.iload_n 1, 1) := by decide +kernel
theorem dX6_lead_17 : decode cX6_lead 17 = .ok (.imul, 1) := by decide +kernel
theorem dX6_lead_18 : decode cX6_lead 18 = .ok (.iload_n 2, 1) := by decide +kernel
theorem dX6_lead_19 : decode cX6_lead 19 = .ok (.iadd, 1) := by decide +kernel
theorem dX6_lead_20 : decode cX6_lead 20 = .ok (.dup2, 1) := by decide +kernel
theorem dX6_lead_21 : decode cX6_lead 21 = .ok (.iaload, 1) := by decide +kernel
theorem dX6_lead_22 : decode cX6_lead 22 = .ok (.iload_n 3, 1) := by decide +kernel
theorem dX6_lead_23 : decode cX6_lead 23 = .ok (.iadd, 1) := by decide +kernel
theorem dX6_lead_24 : decode cX6_lead 24 = .ok (.iastore, 1) := by decide +kernel
theorem dX6_lead_25 : decode cX6_lead 25 = .ok (.iconst 0, 1) := by decide +kernel
theorem dX6_lead_26 : decode cX6_lead 26 = .ok (.ireturn, 1) := by decide +kernel
theorem dX6_lead_27 : decode cX6_lead 27 = .ok (.iload_n 3, 1) := by decide +kernel
theorem dX6_lead_28 : decode cX6_lead 28 = .ok (.istore 4, 2) := by decide +kernel
theorem dX6_lead_30 : decode cX6_lead 30 = .ok (.iconst 0, 1) := by decide +kernel
theorem dX6_lead_31 : decode cX6_lead 31 = .ok (.istore 5, 2) := by decide +kernel
theorem dX6_lead_33 : decode cX6_lead 33 = .ok (.iload 5, 2) := by decide +kernel
theorem dX6_lead_35 : decode cX6_lead 35 = .ok (.aload_n 0, 1) := by decide +kernel
theorem dX6_lead_36 : decode cX6_lead 36 = .ok (.getfield 19, 3) := by decide +kernel
theorem dX6_lead_39 : decode cX6_lead 39 = .ok (.iload_n 1, 1) := by decide +kernel
theorem dX6_lead_40 : decode cX6_lead 40 = .ok (.iaload, 1) := by decide +kernel
theorem dX6_lead_41 : decode cX6_lead 41 = .ok (.if_icmp .ge 84, 3) := by decide +kernel
theorem dX6_lead_44 : decode cX6_lead 44 = .ok (.iload_n 2, 1) := by decide +kernel
theorem dX6_lead_45 : decode cX6_lead 45 = .ok (.aload_n 0, 1) := by decide +kernel
theorem dX6_lead_46 : decode cX6_lead 46 = .ok (.getfield 120, 3) := by decide +kernel
theorem dX6_lead_49 : decode cX6_lead 49 = .ok (.iload 5, 2) := by decide +kernel
theorem dX6_lead_51 : decode cX6_lead 51 = .ok (.iaload, 1) := by decide +kernel
theorem dX6_lead_52 : decode cX6_lead 52 = .ok (.if_icmp .lt 9, 3) := by decide +kernel
theorem dX6_lead_55 : decode cX6_lead 55 = .ok (.sipush 1000, 3) := by decide +kernel
theorem dX6_lead_58 : decode cX6_lead 58 = .ok (.goto 19, 3) := by decide +kernel
theorem dX6_lead_61 : decode cX6_lead 61 = .ok (.aload_n 0, 1) := by decide +kernel
theorem dX6_lead_62 : decode cX6_lead 62 = .ok (.getfield 9, 3) := by decide +kernel
theorem dX6_lead_65 : decode cX6_lead 65 = .ok (.iload_n 2, 1) := by decide +kernel
theorem dX6_lead_66 : decode cX6_lead 66 = .ok (.iaload, 1) := by decide +kernel
theorem dX6_lead_67 : decode cX6_lead 67 = .ok (.aload_n 0, 1) := by decide +kernel
theorem dX6_lead_68 : decode cX6_lead 68 = .ok (.getfield 120, 3) := by decide +kernel
theorem dX6_lead_71 : decode cX6_lead 71 = .ok (.iload 5, 2) := by decide +kernel
theorem dX6_lead_73 : decode cX6_lead 73 = .ok (.iaload, 1) := by decide +kernel
theorem dX6_lead_74 : decode cX6_lead 74 = .ok (.iload_n 2, 1) := by decide +kernel
theorem dX6_lead_75 : decode cX6_lead 75 = .ok (.isub, 1) := by decide +kernel
theorem dX6_lead_76 : decode cX6_lead 76 = .ok (.idiv, 1) := by decide +kernel
theorem dX6_lead_77 : decode cX6_lead 77 = .ok (.istore 6, 2) := by decide +kernel
theorem dX6_lead_79 : decode cX6_lead 79 = .ok (.iload 4, 2) := by decide +kernel
theorem dX6_lead_81 : decode cX6_lead 81 = .ok (.iload 6, 2) := by decide +kernel
theorem dX6_lead_83 : decode cX6_lead 83 = .ok (.imul, 1) := by decide +kernel
theorem dX6_lead_84 : decode cX6_lead 84 = .ok (.sipush 1000, 3) := by decide +kernel
theorem dX6_lead_87 : decode cX6_lead 87 = .ok (.idiv, 1) := by decide +kernel
theorem dX6_lead_88 : decode cX6_lead 88 = .ok (.istore 7, 2) := by decide +kernel
theorem dX6_lead_90 : decode cX6_lead 90 = .ok (.aload_n 0, 1) := by decide +kernel
theorem dX6_lead_91 : decode cX6_lead 91 = .ok (.getfield 31, 3) := by decide +kernel
theorem dX6_lead_94 : decode cX6_lead 94 = .ok (.bipush 8, 2) := by decide +kernel
theorem dX6_lead_96 : decode cX6_lead 96 = .ok (.bipush 10, 2) := by decide +kernel
theorem dX6_lead_98 : decode cX6_lead 98 = .ok (.iload_n 1, 1) := by decide +kernel
theorem dX6_lead_99 : decode cX6_lead 99 = .ok (.imul, 1) := by decide +kernel
theorem dX6_lead_100 : decode cX6_lead 100 = .ok (.iload 5, 2) := by decide +kernel
theorem dX6_lead_102 : decode cX6_lead 102 = .ok (.iadd, 1) := by decide +kernel
theorem dX6_lead_103 : decode cX6_lead 103 = .ok (.imul, 1) := by decide +kernel
theorem dX6_lead_104 : decode cX6_lead 104 = .ok (.iload_n 2, 1) := by decide +kernel
theorem dX6_lead_105 : decode cX6_lead 105 = .ok (.iadd, 1) := by decide +kernel
theorem dX6_lead_106 : decode cX6_lead 106 = .ok (.dup2, 1) := by decide +kernel
theorem dX6_lead_107 : decode cX6_lead 107 = .ok (.iaload, 1) := by decide +kernel
theorem dX6_lead_108 : decode cX6_lead 108 = .ok (.iload 7, 2) := by decide +kernel
theorem dX6_lead_110 : decode cX6_lead 110 = .ok (.iadd, 1) := by decide +kernel
theorem dX6_lead_111 : decode cX6_lead 111 = .ok (.iastore, 1) := by decide +kernel
theorem dX6_lead_112 : decode cX6_lead 112 = .ok (.iload 4, 2) := by decide +kernel
theorem dX6_lead_114 : decode cX6_lead 114 = .ok (.iload 7, 2) := by decide +kernel
theorem dX6_lead_116 : decode cX6_lead 116 = .ok (.isub, 1) := by decide +kernel
theorem dX6_lead_117 : decode cX6_lead 117 = .ok (.istore 4, 2) := by decide +kernel
theorem dX6_lead_119 : decode cX6_lead 119 = .ok (.iinc 5 1, 3) := by decide +kernel
theorem dX6_lead_122 : decode cX6_lead 122 = .ok (.goto (-89), 3) := by decide +kernel
theorem dX6_lead_125 : decode cX6_lead 125 = .ok (.iload 4, 2) := by decide +kernel
theorem dX6_lead_127 : decode cX6_lead 127 = .ok (.ireturn, 1) := by decide +kernel
abbrev rm_X6_lead : Room := k2_rm 0 0
section
variable {p : Program} {l : Launch} {e : Env} {s : State} {m : MethodId} {args : Array Value} {below : List Frame} {meth : Method} {c : Code} {D : gD} {A : Nat → Prop} {ad : Nat → Nat} {S : Nat → Nat × Nat} {σ : Mem}
set_option maxRecDepth 100000 in
set_option maxHeartbeats 4000000 in
theorem w_X6_lead_L33 (Z : Cz D (Ew D A) A cX6_lead 8 (some .int) RX6 p s m args meth c) {u1 : Int32} {u2 : Int32} (hu0 : S 200 = (24, 0)) {r : (Mem × Int32)} {k125 : Mem → Int32 → Option (Mem × Int32)}
    (hk125 : ∀ (σ : Mem) (w4 : Int32) (H : Heap) (locs : List Loc) (ls : Array Slot), St D A ad S σ s.heap H locs → lv_has ls 8 [(4, .int w4)] → k125 σ w4 = some r → W p l e rm_X6_lead s m args below meth c H locs 0 0 (MQ below (QG D A ad S (some (.int r.2)) r.1) args s 0 0 A) (F0 m 125 ls [])) :
    ∀ (n : Nat) (σ : Mem) (v4 : Int32) (v5 : Int32) (H : Heap) (locs : List Loc) (ls : Array Slot), St D A ad S σ s.heap H locs → lv_has ls 8 [(0, .ref (ad 200)), (1, .int u1), (2, .int u2), (4, .int v4), (5, .int v5)] → f_X6_lead_L33 k125 u1 u2 n σ v4 v5 = some r → W p l e rm_X6_lead s m args below meth c H locs 0 0 (MQ below (QG D A ad S (some (.int r.2)) r.1) args s 0 0 A) (F0 m 33 ls []) := by
  have hx := Z.1
  have hb := Z.2.1
  have hown := Z.2.2.2.2.2.1
  have hts := Z.2.2.2.2.2.2.1
  intro n
  induction n with
  | zero => intro σ v4 v5 H locs ls hS hl h; cases h
  | succ n ih =>
    intro σ v4 v5 H locs ls hS hl h
    unfold f_X6_lead_L33 at h
    refine lv_iload hx hb dX6_lead_33 (lv_at hl 4 rfl) ?_
    refine lv_aload_n hx hb dX6_lead_35 rfl (lv_at hl 0 rfl) ?_
    refine h_getC (n := 6) (j := 206) (sh := (1, 9)) Z hS cls_14 hu0 (by decide) rfl rfl rfl fl_X6_19_14 dX6_lead_36 (fun hc4 => ?_)
    refine lv_iload_n hx hb dX6_lead_39 rfl (lv_at hl 1 rfl) ?_
    refine h_iald Z hS hc4 dX6_lead_40 h (fun x5 h => ?_)
    refine lv_icmp_ge (tgt := 125) hx hb dX6_lead_41 (by decide) (fun c6 => ?_) (fun c6 => ?_)
    · have h := if_t h c6
      exact hk125 _ _ _ _ _ hS (lv_sub hl [3] rfl) h
    · have h := if_f h c6
      refine lv_iload_n hx hb dX6_lead_44 rfl (lv_at hl 2 rfl) ?_
      refine lv_aload_n hx hb dX6_lead_45 rfl (lv_at hl 0 rfl) ?_
      refine h_getC (n := 47) (j := 247) (sh := (1, 10)) Z hS cls_14 hu0 (by decide) rfl rfl rfl fl_X6_120_14 dX6_lead_46 (fun hc7 => ?_)
      refine lv_iload hx hb dX6_lead_49 (lv_at hl 4 rfl) ?_
      refine h_iald Z hS hc7 dX6_lead_51 h (fun x8 h => ?_)
      obtain ⟨x10, hp11, h⟩ := bnd_el h
      have K11 : ∀ (H : Heap) (locs : List Loc) (ls : Array Slot), St D A ad S σ s.heap H locs → lv_has ls 8 [(0, .ref (ad 200)), (1, .int u1), (2, .int u2), (4, .int v4), (5, .int v5)] → W p l e rm_X6_lead s m args below meth c H locs 0 0 (MQ below (QG D A ad S (some (.int r.2)) r.1) args s 0 0 A) (F0 m 77 ls [.int x10]) := by
        intro H locs ls hS hl
        refine lv_istore (lv' := [(6, .int x10), (0, .ref (ad 200)), (1, .int u1), (2, .int u2), (4, .int v4), (5, .int v5)]) hx hb dX6_lead_77 hl (by decide) rfl (fun ls hl => ?_)
        refine lv_iload hx hb dX6_lead_79 (lv_at hl 4 rfl) ?_
        refine lv_iload hx hb dX6_lead_81 (lv_at hl 0 rfl) ?_
        refine lv_imul hx hb dX6_lead_83 ?_
        refine lv_sipush (v := (1000 : Int32)) hx hb dX6_lead_84 (by decide) ?_
        refine h_idiv Z dX6_lead_87 h (fun h => ?_)
        refine h_leti h (fun x12 h => ?_)
        refine lv_istore (lv' := [(7, .int x12), (6, .int x10), (0, .ref (ad 200)), (1, .int u1), (2, .int u2), (4, .int v4), (5, .int v5)]) hx hb dX6_lead_88 hl (by decide) rfl (fun ls hl => ?_)
        refine lv_aload_n hx hb dX6_lead_90 rfl (lv_at hl 2 rfl) ?_
        refine h_getC (n := 10) (j := 210) (sh := (1, 720)) Z hS cls_14 hu0 (by decide) rfl rfl rfl fl_X6_31_14 dX6_lead_91 (fun hc13 => ?_)
        refine lv_bipush (v := (8 : Int32)) hx hb dX6_lead_94 (by decide) ?_
        refine lv_bipush (v := (10 : Int32)) hx hb dX6_lead_96 (by decide) ?_
        refine lv_iload_n hx hb dX6_lead_98 rfl (lv_at hl 3 rfl) ?_
        refine lv_imul hx hb dX6_lead_99 ?_
        refine lv_iload hx hb dX6_lead_100 (lv_at hl 6 rfl) ?_
        refine lv_iadd hx hb dX6_lead_102 ?_
        refine lv_imul hx hb dX6_lead_103 ?_
        refine lv_iload_n hx hb dX6_lead_104 rfl (lv_at hl 4 rfl) ?_
        refine lv_iadd hx hb dX6_lead_105 ?_
        refine lv_dup2_11 hx hb dX6_lead_106 rfl rfl ?_
        refine h_iald Z hS hc13 dX6_lead_107 h (fun x14 h => ?_)
        refine lv_iload hx hb dX6_lead_108 (lv_at hl 0 rfl) ?_
        refine lv_iadd hx hb dX6_lead_110 ?_
        refine h_iast Z hS hc13 dX6_lead_111 h (fun σ15 H locs hS h => ?_)
        refine lv_iload hx hb dX6_lead_112 (lv_at hl 5 rfl) ?_
        refine lv_iload hx hb dX6_lead_114 (lv_at hl 0 rfl) ?_
        refine lv_isub hx hb dX6_lead_116 ?_
        refine h_leti h (fun x16 h => ?_)
        refine lv_istore (lv' := [(4, .int x16), (7, .int x12), (6, .int x10), (0, .ref (ad 200)), (1, .int u1), (2, .int u2), (5, .int v5)]) hx hb dX6_lead_117 hl (by decide) rfl (fun ls hl => ?_)
        refine lv_iinc (v := (v5 + (1 : Int32))) (lv' := [(5, .int (v5 + (1 : Int32))), (4, .int x16), (7, .int x12), (6, .int x10), (0, .ref (ad 200)), (1, .int u1), (2, .int u2)]) hx hb dX6_lead_119 hl (k := 6) rfl rfl (by decide) rfl (fun ls hl => ?_)
        refine lv_goto (tgt := 33) hx hb dX6_lead_122 (by decide) ?_
        exact ih _ _ _ _ _ _ hS (lv_sub hl [4, 5, 6, 1, 0] rfl) h
      clear h
      have h := hp11
      clear hp11
      refine lv_icmp_lt (tgt := 61) hx hb dX6_lead_52 (by decide) (fun c9 => ?_) (fun c9 => ?_)
      · have h := if_t h c9
        refine lv_aload_n hx hb dX6_lead_61 rfl (lv_at hl 0 rfl) ?_
        refine h_getC (n := 3) (j := 203) (sh := (1, 8)) Z hS cls_14 hu0 (by decide) rfl rfl rfl fl_X6_9_14 dX6_lead_62 (fun hc17 => ?_)
        refine lv_iload_n hx hb dX6_lead_65 rfl (lv_at hl 2 rfl) ?_
        refine h_iald Z hS hc17 dX6_lead_66 h (fun x18 h => ?_)
        refine lv_aload_n hx hb dX6_lead_67 rfl (lv_at hl 0 rfl) ?_
        refine h_getC (n := 47) (j := 247) (sh := (1, 10)) Z hS cls_14 hu0 (by decide) rfl rfl rfl fl_X6_120_14 dX6_lead_68 (fun hc19 => ?_)
        refine lv_iload hx hb dX6_lead_71 (lv_at hl 4 rfl) ?_
        refine h_iald Z hS hc19 dX6_lead_73 h (fun x20 h => ?_)
        refine lv_iload_n hx hb dX6_lead_74 rfl (lv_at hl 2 rfl) ?_
        refine lv_isub hx hb dX6_lead_75 ?_
        refine h_idiv Z dX6_lead_76 h (fun h => ?_)
        cases h
        exact K11 _ _ _ hS (lv_sub hl [0, 1, 2, 3, 4] rfl)
      · have h := if_f h c9
        refine lv_sipush (v := (1000 : Int32)) hx hb dX6_lead_55 (by decide) ?_
        refine lv_goto (tgt := 77) hx hb dX6_lead_58 (by decide) ?_
        cases h
        exact K11 _ _ _ hS (lv_sub hl [0, 1, 2, 3, 4] rfl)
set_option maxRecDepth 100000 in
set_option maxHeartbeats 4000000 in
theorem w_X6_lead {a1 : Int32} {a2 : Int32} {a3 : Int32} (hi0 : S 200 = (24, 0)) {r : (Mem × Int32)} (h : f_X6_lead σ a1 a2 a3 = some r) : Met l yX6_lead (ws_ yX6_lead cX6_lead 8 (some .int)) rm_X6_lead (va_Pc [.ref (ad 200), .int a1, .int a2, .int a3] (PreG D (Ew D A) A ad S σ)) (QG D A ad S (some (.int r.2)) r.1) 0 0 A := by
  refine y_met (by decide) (Nat.le_of_ble_eq_true rfl) (fun p e s m below meth c ls Z hS hl => ?_)
  have hx := Z.1
  have hb := Z.2.1
  have hown := Z.2.2.2.2.2.1
  have hts := Z.2.2.2.2.2.2.1
  unfold f_X6_lead at h
  refine lv_iload_n hx hb dX6_lead_0 rfl (lv_at hl 2 rfl) ?_
  refine lv_aload_n hx hb dX6_lead_1 rfl (lv_at hl 0 rfl) ?_
  refine h_getC (n := 47) (j := 247) (sh := (1, 10)) Z hS cls_14 hi0 (by decide) rfl rfl rfl fl_X6_120_14 dX6_lead_2 (fun hc1 => ?_)
  refine lv_iconst (v := (0 : Int32)) hx hb dX6_lead_5 (by decide) ?_
  refine h_iald Z hS hc1 dX6_lead_6 h (fun x2 h => ?_)
  refine lv_icmp_lt (tgt := 27) hx hb dX6_lead_7 (by decide) (fun c3 => ?_) (fun c3 => ?_)
  · have h := if_t h c3
    refine lv_iload_n hx hb dX6_lead_27 rfl (lv_at hl 3 rfl) ?_
    refine lv_istore (lv' := [(4, .int a3), (0, .ref (ad 200)), (1, .int a1), (2, .int a2), (3, .int a3)]) hx hb dX6_lead_28 hl (by decide) rfl (fun ls hl => ?_)
    refine lv_iconst (v := (0 : Int32)) hx hb dX6_lead_30 (by decide) ?_
    refine lv_istore (lv' := [(5, .int (0 : Int32)), (4, .int a3), (0, .ref (ad 200)), (1, .int a1), (2, .int a2), (3, .int a3)]) hx hb dX6_lead_31 hl (by decide) rfl (fun ls hl => ?_)
    refine w_X6_lead_L33 Z hi0 (fun σ21 x22 H locs ls hS hl h => ?_) FU _ _ _ _ _ _ hS (lv_sub hl [2, 3, 4, 1, 0] rfl) h
    refine lv_iload hx hb dX6_lead_125 (lv_at hl 0 rfl) ?_
    exact h_iretm Z hS dX6_lead_127 h
  · have h := if_f h c3
    refine lv_aload_n hx hb dX6_lead_10 rfl (lv_at hl 0 rfl) ?_
    refine h_getC (n := 12) (j := 212) (sh := (1, 72)) Z hS cls_14 hi0 (by decide) rfl rfl rfl fl_X6_37_14 dX6_lead_11 (fun hc23 => ?_)
    refine lv_bipush (v := (8 : Int32)) hx hb dX6_lead_14 (by decide) ?_
    refine lv_iload_n hx hb dX6_lead_16 rfl (lv_at hl 1 rfl) ?_
    refine lv_imul hx hb dX6_lead_17 ?_
    refine lv_iload_n hx hb dX6_lead_18 rfl (lv_at hl 2 rfl) ?_
    refine lv_iadd hx hb dX6_lead_19 ?_
    refine lv_dup2_11 hx hb dX6_lead_20 rfl rfl ?_
    refine h_iald Z hS hc23 dX6_lead_21 h (fun x24 h => ?_)
    refine lv_iload_n hx hb dX6_lead_22 rfl (lv_at hl 3 rfl) ?_
    refine lv_iadd hx hb dX6_lead_23 ?_
    refine h_iast Z hS hc23 dX6_lead_24 h (fun σ25 H locs hS h => ?_)
    refine lv_iconst (v := (0 : Int32)) hx hb dX6_lead_25 (by decide) ?_
    exact h_iretm Z hS dX6_lead_26 h
end
theorem dX6_runOne_0 : decode cX6_runOne 0 = .ok (.iconst 0, 1) := by decide +kernel
theorem dX6_runOne_1 : decode cX6_runOne 1 = .ok (.istore_n 2, 1) := by decide +kernel
theorem dX6_runOne_2 : decode cX6_runOne 2 = .ok (.aload_n 0, 1) := by decide +kernel
theorem dX6_runOne_3 : decode cX6_runOne 3 = .ok (.iload_n 1, 1) := by decide +kernel
theorem dX6_runOne_4 : decode cX6_runOne 4 = .ok (.invokevirtual 336, 3) := by decide +kernel
theorem dX6_runOne_7 : decode cX6_runOne 7 = .ok (.bipush 7, 2) := by decide +kernel
theorem dX6_runOne_9 : decode cX6_runOne 9 = .ok (.istore_n 3, 1) := by decide +kernel
theorem dX6_runOne_10 : decode cX6_runOne 10 = .ok (.iload_n 3, 1) := by decide +kernel
theorem dX6_runOne_11 : decode cX6_runOne 11 = .ok (.ifCond .lt 72, 3) := by decide +kernel
theorem dX6_runOne_14 : decode cX6_runOne 14 = .ok (.aload_n 0, 1) := by decide +kernel
theorem dX6_runOne_15 : decode cX6_runOne 15 = .ok (.iload_n 1, 1) := by decide +kernel
theorem dX6_runOne_16 : decode cX6_runOne 16 = .ok (.iload_n 3, 1) := by decide +kernel
theorem dX6_runOne_17 : decode cX6_runOne 17 = .ok (.invokevirtual 345, 3) := by decide +kernel
theorem dX6_runOne_20 : decode cX6_runOne 20 = .ok (.istore 4, 2) := by decide +kernel
theorem dX6_runOne_22 : decode cX6_runOne 22 = .ok (.iload_n 2, 1) := by decide +kernel
theorem dX6_runOne_23 : decode cX6_runOne 23 = .ok (.iload 4, 2) := by decide +kernel
theorem dX6_runOne_25 : decode cX6_runOne 25 = .ok (.iadd, 1) := by decide +kernel
theorem dX6_runOne_26 : decode cX6_runOne 26 = .ok (.istore_n 2, 1) := by decide +kernel
theorem dX6_runOne_27 : decode cX6_runOne 27 = .ok (.aload_n 0, 1) := by decide +kernel
theorem dX6_runOne_28 : decode cX6_runOne 28 = .ok (.getfield 64, 3) := by decide +kernel
theorem dX6_runOne_31 : decode cX6_runOne 31 = .ok (.iload_n 1, 1) := by decide +kernel
theorem dX6_runOne_32 : decode cX6_runOne 32 = .ok (.iaload, 1) := by decide +kernel
theorem dX6_runOne_33 : decode cX6_runOne 33 = .ok (.iconst (-1), 1) := by decide +kernel
theorem dX6_runOne_34 : decode cX6_runOne 34 = .ok (.if_icmp .ne 14, 3) := by decide +kernel
theorem dX6_runOne_37 : decode cX6_runOne 37 = .ok (.aload_n 0, 1) := by decide +kernel
theorem dX6_runOne_38 : decode cX6_runOne 38 = .ok (.iload_n 3, 1) := by decide +kernel
theorem dX6_runOne_39 : decode cX6_runOne 39 = .ok (.iconst 2, 1) := by decide +kernel
theorem dX6_runOne_40 : decode cX6_runOne 40 = .ok (.iload 4, 2) := by decide +kernel
theorem dX6_runOne_42 : decode cX6_runOne 42 = .ok (.invokevirtual 338, 3) := by decide +kernel
theorem dX6_runOne_45 : decode cX6_runOne 45 = .ok (.goto 32, 3) := by decide +kernel
theorem dX6_runOne_48 : decode cX6_runOne 48 = .ok (.aload_n 0, 1) := by decide +kernel
theorem dX6_runOne_49 : decode cX6_runOne 49 = .ok (.iload_n 1, 1) := by decide +kernel
theorem dX6_runOne_50 : decode cX6_runOne 50 = .ok (.iload_n 3, 1) := by decide +kernel
theorem dX6_runOne_51 : decode cX6_runOne 51 = .ok (.iload 4, 2) := by decide +kernel
theorem dX6_runOne_53 : decode cX6_runOne 53 = .ok (.invokevirtual 348, 3) := by decide +kernel
theorem dX6_runOne_56 : decode cX6_runOne 56 = .ok (.istore 5, 2) := by decide +kernel
theorem dX6_runOne_58 : decode cX6_runOne 58 = .ok (.aload_n 0, 1) := by decide +kernel
theorem dX6_runOne_59 : decode cX6_runOne 59 = .ok (.getfield 67, 3) := by decide +kernel
theorem dX6_runOne_62 : decode cX6_runOne 62 = .ok (.iload_n 1, 1) := by decide +kernel
theorem dX6_runOne_63 : decode cX6_runOne 63 = .ok (.dup2, 1) := by decide +kernel
theorem dX6_runOne_64 : decode cX6_runOne 64 = .ok (.iaload, 1) := by decide +kernel
theorem dX6_runOne_65 : decode cX6_runOne 65 = .ok (.iload 5, 2) := by decide +kernel
theorem dX6_runOne_67 : decode cX6_runOne 67 = .ok (.iadd, 1) := by decide +kernel
theorem dX6_runOne_68 : decode cX6_runOne 68 = .ok (.iastore, 1) := by decide +kernel
theorem dX6_runOne_69 : decode cX6_runOne 69 = .ok (.aload_n 0, 1) := by decide +kernel
theorem dX6_runOne_70 : decode cX6_runOne 70 = .ok (.iload_n 3, 1) := by decide +kernel
theorem dX6_runOne_71 : decode cX6_runOne 71 = .ok (.iconst 1, 1) := by decide +kernel
theorem dX6_runOne_72 : decode cX6_runOne 72 = .ok (.iload 5, 2) := by decide +kernel
theorem dX6_runOne_74 : decode cX6_runOne 74 = .ok (.invokevirtual 338, 3) := by decide +kernel
theorem dX6_runOne_77 : decode cX6_runOne 77 = .ok (.iinc 3 (-1), 3) := by decide +kernel
theorem dX6_runOne_80 : decode cX6_runOne 80 = .ok (.goto (-70), 3) := by decide +kernel
theorem dX6_runOne_83 : decode cX6_runOne 83 = .ok (.aload_n 0, 1) := by decide +kernel
theorem dX6_runOne_84 : decode cX6_runOne 84 = .ok (.getfield 64, 3) := by decide +kernel
theorem dX6_runOne_87 : decode cX6_runOne 87 = .ok (.iload_n 1, 1) := by decide +kernel
theorem dX6_runOne_88 : decode cX6_runOne 88 = .ok (.iaload, 1) := by decide +kernel
theorem dX6_runOne_89 : decode cX6_runOne 89 = .ok (.iconst (-1), 1) := by decide +kernel
theorem dX6_runOne_90 : decode cX6_runOne 90 = .ok (.if_icmp .ne 13, 3) := by decide +kernel
theorem dX6_runOne_93 : decode cX6_runOne 93 = .ok (.aload_n 0, 1) := by decide +kernel
theorem dX6_runOne_94 : decode cX6_runOne 94 = .ok (.getfield 123, 3) := by decide +kernel
theorem dX6_runOne_97 : decode cX6_runOne 97 = .ok (.iload_n 1, 1) := by decide +kernel
theorem dX6_runOne_98 : decode cX6_runOne 98 = .ok (.iconst 1, 1) := by decide +kernel
theorem dX6_runOne_99 : decode cX6_runOne 99 = .ok (.bastore, 1) := by decide +kernel
theorem dX6_runOne_100 : decode cX6_runOne 100 = .ok (.goto 54, 3) := by decide +kernel
theorem dX6_runOne_103 : decode cX6_runOne 103 = .ok (.iload_n 2, 1) := by decide +kernel
theorem dX6_runOne_104 : decode cX6_runOne 104 = .ok (.ifCond .le 50, 3) := by decide +kernel
theorem dX6_runOne_107 : decode cX6_runOne 107 = .ok (.aload_n 0, 1) := by decide +kernel
theorem dX6_runOne_108 : decode cX6_runOne 108 = .ok (.getfield 102, 3) := by decide +kernel
theorem dX6_runOne_111 : decode cX6_runOne 111 = .ok (.iload_n 1, 1) := by decide +kernel
theorem dX6_runOne_112 : decode cX6_runOne 112 = .ok (.iaload, 1) := by decide +kernel
theorem dX6_runOne_113 : decode cX6_runOne 113 = .ok (.iconst (-1), 1) := by decide +kernel
theorem dX6_runOne_114 : decode cX6_runOne 114 = .ok (.if_icmp .eq 18, 3) := by decide +kernel
theorem dX6_runOne_117 : decode cX6_runOne 117 = .ok (.aload_n 0, 1) := by decide +kernel
theorem dX6_runOne_118 : decode cX6_runOne 118 = .ok (.getfield 67, 3) := by decide +kernel
theorem dX6_runOne_121 : decode cX6_runOne 121 = .ok (.iload_n 1, 1) := by decide +kernel
theorem dX6_runOne_122 : decode cX6_runOne 122 = .ok (.iaload, 1) := by decide +kernel
theorem dX6_runOne_123 : decode cX6_runOne 123 = .ok (.aload_n 0, 1) := by decide +kernel
theorem dX6_runOne_124 : decode cX6_runOne 124 = .ok (.getfield 105, 3) := by decide +kernel
theorem dX6_runOne_127 : decode cX6_runOne 127 = .ok (.iload_n 1, 1) := by decide +kernel
theorem dX6_runOne_128 : decode cX6_runOne 128 = .ok (.iaload, 1) := by decide +kernel
theorem dX6_runOne_129 : decode cX6_runOne 129 = .ok (.if_icmp .ge 25, 3) := by decide +kernel
theorem dX6_runOne_132 : decode cX6_runOne 132 = .ok (.aload_n 0, 1) := by decide +kernel
theorem dX6_runOne_133 : decode cX6_runOne 133 = .ok (.getfield 102, 3) := by decide +kernel
theorem dX6_runOne_136 : decode cX6_runOne 136 = .ok (.iload_n 1, 1) := by decide +kernel
theorem dX6_runOne_137 : decode cX6_runOne 137 = .ok (.aload_n 0, 1) := by decide +kernel
theorem dX6_runOne_138 : decode cX6_runOne 138 = .ok (.getfield 330, 3) := by decide +kernel
theorem dX6_runOne_141 : decode cX6_runOne 141 = .ok (.iastore, 1) := by decide +kernel
theorem dX6_runOne_142 : decode cX6_runOne 142 = .ok (.aload_n 0, 1) := by decide +kernel
theorem dX6_runOne_143 : decode cX6_runOne 143 = .ok (.getfield 105, 3) := by decide +kernel
theorem dX6_runOne_146 : decode cX6_runOne 146 = .ok (.iload_n 1, 1) := by decide +kernel
theorem dX6_runOne_147 : decode cX6_runOne 147 = .ok (.aload_n 0, 1) := by decide +kernel
theorem dX6_runOne_148 : decode cX6_runOne 148 = .ok (.getfield 67, 3) := by decide +kernel
theorem dX6_runOne_151 : decode cX6_runOne 151 = .ok (.iload_n 1, 1) := by decide +kernel
theorem dX6_runOne_152 : decode cX6_runOne 152 = .ok (.iaload, 1) := by decide +kernel
theorem dX6_runOne_153 : decode cX6_runOne 153 = .ok (.iastore, 1) := by decide +kernel
theorem dX6_runOne_154 : decode cX6_runOne 154 = .ok (.return_, 1) := by decide +kernel
abbrev rm_X6_runOne : Room := k2_rm 4 79
section
variable {p : Program} {l : Launch} {e : Env} {s : State} {m : MethodId} {args : Array Value} {below : List Frame} {meth : Method} {c : Code} {D : gD} {A : Nat → Prop} {ad : Nat → Nat} {S : Nat → Nat × Nat} {σ : Mem}
set_option maxRecDepth 100000 in
set_option maxHeartbeats 4000000 in
theorem w_X6_runOne_L10 (Z : Cz D (Ew D A) A cX6_runOne 6 none RX6 p s m args meth c) {u1 : Int32} (hu0 : S 200 = (24, 0)) {r : Mem} {k83 : Mem → Int32 → Option Mem}
    (hk83 : ∀ (σ : Mem) (w2 : Int32) (H : Heap) (locs : List Loc) (ls : Array Slot), St D A ad S σ s.heap H locs → lv_has ls 6 [(0, .ref (ad 200)), (1, .int u1), (2, .int w2)] → k83 σ w2 = some r → W p l e rm_X6_runOne s m args below meth c H locs 0 0 (MQ below (QG D A ad S none r) args s 0 0 A) (F0 m 83 ls [])) :
    ∀ (n : Nat) (σ : Mem) (v2 : Int32) (v3 : Int32) (H : Heap) (locs : List Loc) (ls : Array Slot), St D A ad S σ s.heap H locs → lv_has ls 6 [(0, .ref (ad 200)), (1, .int u1), (2, .int v2), (3, .int v3)] → f_X6_runOne_L10 k83 u1 n σ v2 v3 = some r → W p l e rm_X6_runOne s m args below meth c H locs 0 0 (MQ below (QG D A ad S none r) args s 0 0 A) (F0 m 10 ls []) := by
  have hx := Z.1
  have hb := Z.2.1
  have hown := Z.2.2.2.2.2.1
  have hts := Z.2.2.2.2.2.2.1
  intro n
  induction n with
  | zero => intro σ v2 v3 H locs ls hS hl h; cases h
  | succ n ih =>
    intro σ v2 v3 H locs ls hS hl h
    unfold f_X6_runOne_L10 at h
    refine lv_iload_n hx hb dX6_runOne_10 rfl (lv_at hl 3 rfl) ?_
    refine lv_if_lt (tgt := 83) hx hb dX6_runOne_11 (by decide) (fun c2 => ?_) (fun c2 => ?_)
    · have h := if_t h c2
      exact hk83 _ _ _ _ _ hS (lv_sub hl [0, 1, 2] rfl) h
    · have h := if_f h c2
      refine lv_aload_n hx hb dX6_runOne_14 rfl (lv_at hl 0 rfl) ?_
      refine lv_iload_n hx hb dX6_runOne_15 rfl (lv_at hl 1 rfl) ?_
      refine lv_iload_n hx hb dX6_runOne_16 rfl (lv_at hl 3 rfl) ?_
      refine h_ci hS h (fun z hz => h_rV (rest := []) Z hS hu0 rfl v_X6_345 (w_X6_partOf hu0 hz) rfl rfl ⟨by decide, by decide⟩ rfl hl.1 rfl (Nat.le_of_ble_eq_true rfl) (Nat.zero_le _) (Nat.zero_le _) dX6_runOne_17) (fun x3 H locs hS h => ?_)
      refine lv_istore (lv' := [(4, .int x3), (0, .ref (ad 200)), (1, .int u1), (2, .int v2), (3, .int v3)]) hx hb dX6_runOne_20 hl (by decide) rfl (fun ls hl => ?_)
      refine lv_iload_n hx hb dX6_runOne_22 rfl (lv_at hl 3 rfl) ?_
      refine lv_iload hx hb dX6_runOne_23 (lv_at hl 0 rfl) ?_
      refine lv_iadd hx hb dX6_runOne_25 ?_
      refine h_leti h (fun x4 h => ?_)
      refine lv_istore_n (lv' := [(2, .int x4), (4, .int x3), (0, .ref (ad 200)), (1, .int u1), (3, .int v3)]) hx hb dX6_runOne_26 rfl hl (by decide) rfl (fun ls hl => ?_)
      refine lv_aload_n hx hb dX6_runOne_27 rfl (lv_at hl 2 rfl) ?_
      refine h_getC (n := 21) (j := 221) (sh := (1, 9)) Z hS cls_14 hu0 (by decide) rfl rfl rfl fl_X6_64_14 dX6_runOne_28 (fun hc5 => ?_)
      refine lv_iload_n hx hb dX6_runOne_31 rfl (lv_at hl 3 rfl) ?_
      refine h_iald Z hS hc5 dX6_runOne_32 h (fun x6 h => ?_)
      refine lv_iconst (v := (-1 : Int32)) hx hb dX6_runOne_33 (by decide) ?_
      refine lv_icmp_ne (tgt := 48) hx hb dX6_runOne_34 (by decide) (fun c7 => ?_) (fun c7 => ?_)
      · have h := if_f h c7
        refine lv_aload_n hx hb dX6_runOne_48 rfl (lv_at hl 2 rfl) ?_
        refine lv_iload_n hx hb dX6_runOne_49 rfl (lv_at hl 3 rfl) ?_
        refine lv_iload_n hx hb dX6_runOne_50 rfl (lv_at hl 4 rfl) ?_
        refine lv_iload hx hb dX6_runOne_51 (lv_at hl 1 rfl) ?_
        refine h_cim hS h (fun z hz => h_rV (rest := []) Z hS hu0 rfl v_X6_348 (w_X6_lead hu0 hz) rfl rfl ⟨by decide, by decide⟩ rfl hl.1 rfl (Nat.le_of_ble_eq_true rfl) (Nat.zero_le _) (Nat.zero_le _) dX6_runOne_53) (fun σ9 x10 H locs hS h => ?_)
        refine lv_istore (lv' := [(5, .int x10), (2, .int x4), (4, .int x3), (0, .ref (ad 200)), (1, .int u1), (3, .int v3)]) hx hb dX6_runOne_56 hl (by decide) rfl (fun ls hl => ?_)
        refine lv_aload_n hx hb dX6_runOne_58 rfl (lv_at hl 3 rfl) ?_
        refine h_getC (n := 22) (j := 222) (sh := (1, 9)) Z hS cls_14 hu0 (by decide) rfl rfl rfl fl_X6_67_14 dX6_runOne_59 (fun hc11 => ?_)
        refine lv_iload_n hx hb dX6_runOne_62 rfl (lv_at hl 4 rfl) ?_
        refine lv_dup2_11 hx hb dX6_runOne_63 rfl rfl ?_
        refine h_iald Z hS hc11 dX6_runOne_64 h (fun x12 h => ?_)
        refine lv_iload hx hb dX6_runOne_65 (lv_at hl 0 rfl) ?_
        refine lv_iadd hx hb dX6_runOne_67 ?_
        refine h_iast Z hS hc11 dX6_runOne_68 h (fun σ13 H locs hS h => ?_)
        refine lv_aload_n hx hb dX6_runOne_69 rfl (lv_at hl 3 rfl) ?_
        refine lv_iload_n hx hb dX6_runOne_70 rfl (lv_at hl 5 rfl) ?_
        refine lv_iconst (v := (1 : Int32)) hx hb dX6_runOne_71 (by decide) ?_
        refine lv_iload hx hb dX6_runOne_72 (lv_at hl 0 rfl) ?_
        refine h_cm hS h (fun z hz => h_rV (rest := []) Z hS hu0 rfl v_X6_338 (w_X6_tell hu0 hz) rfl rfl ⟨by decide, by decide⟩ rfl hl.1 rfl (Nat.le_of_ble_eq_true rfl) (Nat.zero_le _) (Nat.zero_le _) dX6_runOne_74) (fun σ14 H locs hS h => ?_)
        refine lv_iinc (v := (v3 + (-1 : Int32))) (lv' := [(3, .int (v3 + (-1 : Int32))), (5, .int x10), (2, .int x4), (4, .int x3), (0, .ref (ad 200)), (1, .int u1)]) hx hb dX6_runOne_77 hl (k := 5) rfl rfl (by decide) rfl (fun ls hl => ?_)
        refine lv_goto (tgt := 10) hx hb dX6_runOne_80 (by decide) ?_
        exact ih _ _ _ _ _ _ hS (lv_sub hl [4, 5, 2, 0] rfl) h
      · have h := if_t h c7
        refine lv_aload_n hx hb dX6_runOne_37 rfl (lv_at hl 2 rfl) ?_
        refine lv_iload_n hx hb dX6_runOne_38 rfl (lv_at hl 4 rfl) ?_
        refine lv_iconst (v := (2 : Int32)) hx hb dX6_runOne_39 (by decide) ?_
        refine lv_iload hx hb dX6_runOne_40 (lv_at hl 1 rfl) ?_
        refine h_cm hS h (fun z hz => h_rV (rest := []) Z hS hu0 rfl v_X6_338 (w_X6_tell hu0 hz) rfl rfl ⟨by decide, by decide⟩ rfl hl.1 rfl (Nat.le_of_ble_eq_true rfl) (Nat.zero_le _) (Nat.zero_le _) dX6_runOne_42) (fun σ8 H locs hS h => ?_)
        refine lv_goto (tgt := 77) hx hb dX6_runOne_45 (by decide) ?_
        refine lv_iinc (v := (v3 + (-1 : Int32))) (lv' := [(3, .int (v3 + (-1 : Int32))), (2, .int x4), (4, .int x3), (0, .ref (ad 200)), (1, .int u1)]) hx hb dX6_runOne_77 hl (k := 4) rfl rfl (by decide) rfl (fun ls hl => ?_)
        refine lv_goto (tgt := 10) hx hb dX6_runOne_80 (by decide) ?_
        exact ih _ _ _ _ _ _ hS (lv_sub hl [3, 4, 1, 0] rfl) h
set_option maxRecDepth 100000 in
set_option maxHeartbeats 4000000 in
theorem w_X6_runOne {a1 : Int32} (hi0 : S 200 = (24, 0)) {r : Mem} (h : f_X6_runOne σ a1 = some r) : Met l yX6_runOne (ws_ yX6_runOne cX6_runOne 6 none) rm_X6_runOne (va_Pc [.ref (ad 200), .int a1] (PreG D (Ew D A) A ad S σ)) (QG D A ad S none r) 0 0 A := by
  refine y_met (by decide) (Nat.le_of_ble_eq_true rfl) (fun p e s m below meth c ls Z hS hl => ?_)
  have hx := Z.1
  have hb := Z.2.1
  have hown := Z.2.2.2.2.2.1
  have hts := Z.2.2.2.2.2.2.1
  unfold f_X6_runOne at h
  refine lv_iconst (v := (0 : Int32)) hx hb dX6_runOne_0 (by decide) ?_
  refine lv_istore_n (lv' := [(2, .int (0 : Int32)), (0, .ref (ad 200)), (1, .int a1)]) hx hb dX6_runOne_1 rfl hl (by decide) rfl (fun ls hl => ?_)
  refine lv_aload_n hx hb dX6_runOne_2 rfl (lv_at hl 1 rfl) ?_
  refine lv_iload_n hx hb dX6_runOne_3 rfl (lv_at hl 2 rfl) ?_
  refine h_cm hS h (fun z hz => h_rV (rest := []) Z hS hi0 rfl v_X6_336 (w_X6_look_2 hi0 hz) rfl rfl ⟨by decide, by decide⟩ rfl hl.1 rfl (Nat.le_of_ble_eq_true rfl) (Nat.zero_le _) (Nat.zero_le _) dX6_runOne_4) (fun σ1 H locs hS h => ?_)
  refine lv_bipush (v := (7 : Int32)) hx hb dX6_runOne_7 (by decide) ?_
  refine lv_istore_n (lv' := [(3, .int (7 : Int32)), (2, .int (0 : Int32)), (0, .ref (ad 200)), (1, .int a1)]) hx hb dX6_runOne_9 rfl hl (by decide) rfl (fun ls hl => ?_)
  refine w_X6_runOne_L10 Z hi0 (fun σ15 x16 H locs ls hS hl h => ?_) FU _ _ _ _ _ _ hS (lv_sub hl [2, 3, 1, 0] rfl) h
  refine lv_aload_n hx hb dX6_runOne_83 rfl (lv_at hl 0 rfl) ?_
  refine h_getC (n := 21) (j := 221) (sh := (1, 9)) Z hS cls_14 hi0 (by decide) rfl rfl rfl fl_X6_64_14 dX6_runOne_84 (fun hc17 => ?_)
  refine lv_iload_n hx hb dX6_runOne_87 rfl (lv_at hl 1 rfl) ?_
  refine h_iald Z hS hc17 dX6_runOne_88 h (fun x18 h => ?_)
  refine lv_iconst (v := (-1 : Int32)) hx hb dX6_runOne_89 (by decide) ?_
  refine lv_icmp_ne (tgt := 103) hx hb dX6_runOne_90 (by decide) (fun c19 => ?_) (fun c19 => ?_)
  · have h := if_f h c19
    refine lv_iload_n hx hb dX6_runOne_103 rfl (lv_at hl 2 rfl) ?_
    refine lv_if_le (tgt := 154) hx hb dX6_runOne_104 (by decide) (fun c22 => ?_) (fun c22 => ?_)
    · have h := if_t h c22
      exact h_vret Z hS dX6_runOne_154 h
    · have h := if_f h c22
      refine lv_aload_n hx hb dX6_runOne_107 rfl (lv_at hl 0 rfl) ?_
      refine h_getC (n := 41) (j := 241) (sh := (1, 8)) Z hS cls_14 hi0 (by decide) rfl rfl rfl fl_X6_102_14 dX6_runOne_108 (fun hc23 => ?_)
      refine lv_iload_n hx hb dX6_runOne_111 rfl (lv_at hl 1 rfl) ?_
      refine h_iald Z hS hc23 dX6_runOne_112 h (fun x24 h => ?_)
      refine lv_iconst (v := (-1 : Int32)) hx hb dX6_runOne_113 (by decide) ?_
      refine lv_icmp_eq (tgt := 132) hx hb dX6_runOne_114 (by decide) (fun c25 => ?_) (fun c25 => ?_)
      · have h := if_t h c25
        refine lv_aload_n hx hb dX6_runOne_132 rfl (lv_at hl 0 rfl) ?_
        refine h_getC (n := 41) (j := 241) (sh := (1, 8)) Z hS cls_14 hi0 (by decide) rfl rfl rfl fl_X6_102_14 dX6_runOne_133 (fun hc26 => ?_)
        refine lv_iload_n hx hb dX6_runOne_136 rfl (lv_at hl 1 rfl) ?_
        refine lv_aload_n hx hb dX6_runOne_137 rfl (lv_at hl 0 rfl) ?_
        refine h_getI Z hS cls_14 hi0 (by decide) rfl fl_X6_330_14 dX6_runOne_138 h (fun x27 h => ?_)
        refine h_iast Z hS hc26 dX6_runOne_141 h (fun σ28 H locs hS h => ?_)
        refine lv_aload_n hx hb dX6_runOne_142 rfl (lv_at hl 0 rfl) ?_
        refine h_getC (n := 42) (j := 242) (sh := (1, 8)) Z hS cls_14 hi0 (by decide) rfl rfl rfl fl_X6_105_14 dX6_runOne_143 (fun hc29 => ?_)
        refine lv_iload_n hx hb dX6_runOne_146 rfl (lv_at hl 1 rfl) ?_
        refine lv_aload_n hx hb dX6_runOne_147 rfl (lv_at hl 0 rfl) ?_
        refine h_getC (n := 22) (j := 222) (sh := (1, 9)) Z hS cls_14 hi0 (by decide) rfl rfl rfl fl_X6_67_14 dX6_runOne_148 (fun hc30 => ?_)
        refine lv_iload_n hx hb dX6_runOne_151 rfl (lv_at hl 1 rfl) ?_
        refine h_iald Z hS hc30 dX6_runOne_152 h (fun x31 h => ?_)
        refine h_iast Z hS hc29 dX6_runOne_153 h (fun σ32 H locs hS h => ?_)
        exact h_vret Z hS dX6_runOne_154 h
      · have h := if_f h c25
        refine lv_aload_n hx hb dX6_runOne_117 rfl (lv_at hl 0 rfl) ?_
        refine h_getC (n := 22) (j := 222) (sh := (1, 9)) Z hS cls_14 hi0 (by decide) rfl rfl rfl fl_X6_67_14 dX6_runOne_118 (fun hc33 => ?_)
        refine lv_iload_n hx hb dX6_runOne_121 rfl (lv_at hl 1 rfl) ?_
        refine h_iald Z hS hc33 dX6_runOne_122 h (fun x34 h => ?_)
        refine lv_aload_n hx hb dX6_runOne_123 rfl (lv_at hl 0 rfl) ?_
        refine h_getC (n := 42) (j := 242) (sh := (1, 8)) Z hS cls_14 hi0 (by decide) rfl rfl rfl fl_X6_105_14 dX6_runOne_124 (fun hc35 => ?_)
        refine lv_iload_n hx hb dX6_runOne_127 rfl (lv_at hl 1 rfl) ?_
        refine h_iald Z hS hc35 dX6_runOne_128 h (fun x36 h => ?_)
        refine lv_icmp_ge (tgt := 154) hx hb dX6_runOne_129 (by decide) (fun c37 => ?_) (fun c37 => ?_)
        · have h := if_t h c37
          exact h_vret Z hS dX6_runOne_154 h
        · have h := if_f h c37
          refine lv_aload_n hx hb dX6_runOne_132 rfl (lv_at hl 0 rfl) ?_
          refine h_getC (n := 41) (j := 241) (sh := (1, 8)) Z hS cls_14 hi0 (by decide) rfl rfl rfl fl_X6_102_14 dX6_runOne_133 (fun hc38 => ?_)
          refine lv_iload_n hx hb dX6_runOne_136 rfl (lv_at hl 1 rfl) ?_
          refine lv_aload_n hx hb dX6_runOne_137 rfl (lv_at hl 0 rfl) ?_
          refine h_getI Z hS cls_14 hi0 (by decide) rfl fl_X6_330_14 dX6_runOne_138 h (fun x39 h => ?_)
          refine h_iast Z hS hc38 dX6_runOne_141 h (fun σ40 H locs hS h => ?_)
          refine lv_aload_n hx hb dX6_runOne_142 rfl (lv_at hl 0 rfl) ?_
          refine h_getC (n := 42) (j := 242) (sh := (1, 8)) Z hS cls_14 hi0 (by decide) rfl rfl rfl fl_X6_105_14 dX6_runOne_143 (fun hc41 => ?_)
          refine lv_iload_n hx hb dX6_runOne_146 rfl (lv_at hl 1 rfl) ?_
          refine lv_aload_n hx hb dX6_runOne_147 rfl (lv_at hl 0 rfl) ?_
          refine h_getC (n := 22) (j := 222) (sh := (1, 9)) Z hS cls_14 hi0 (by decide) rfl rfl rfl fl_X6_67_14 dX6_runOne_148 (fun hc42 => ?_)
          refine lv_iload_n hx hb dX6_runOne_151 rfl (lv_at hl 1 rfl) ?_
          refine h_iald Z hS hc42 dX6_runOne_152 h (fun x43 h => ?_)
          refine h_iast Z hS hc41 dX6_runOne_153 h (fun σ44 H locs hS h => ?_)
          exact h_vret Z hS dX6_runOne_154 h
  · have h := if_t h c19
    refine lv_aload_n hx hb dX6_runOne_93 rfl (lv_at hl 0 rfl) ?_
    refine h_getC (n := 48) (j := 248) (sh := (3, 8)) Z hS cls_14 hi0 (by decide) rfl rfl rfl fl_X6_123_14 dX6_runOne_94 (fun hc20 => ?_)
    refine lv_iload_n hx hb dX6_runOne_97 rfl (lv_at hl 1 rfl) ?_
    refine lv_iconst (v := (1 : Int32)) hx hb dX6_runOne_98 (by decide) ?_
    refine h_zast Z hS hc20 dX6_runOne_99 h (fun σ21 H locs hS h => ?_)
    refine lv_goto (tgt := 154) hx hb dX6_runOne_100 (by decide) ?_
    exact h_vret Z hS dX6_runOne_154 h
end
theorem dX6_flow_0 : decode cX6_flow 0 = .ok (.lconst 0, 1) := by decide +kernel
theorem dX6_flow_1 : decode cX6_flow 1 = .ok (.lstore_n 1, 1) := by decide +kernel
theorem dX6_flow_2 : decode cX6_flow 2 = .ok (.iconst 0, 1) := by decide +kernel
theorem dX6_flow_3 : decode cX6_flow 3 = .ok (.istore_n 3, 1) := by decide +kernel
theorem dX6_flow_4 : decode cX6_flow 4 = .ok (.iload_n 3, 1) := by decide +kernel
theorem dX6_flow_5 : decode cX6_flow 5 = .ok (.aload_n 0, 1) := by decide +kernel
theorem dX6_flow_6 : decode cX6_flow 6 = .ok (.getfield 165, 3) := by decide +kernel
theorem dX6_flow_9 : decode cX6_flow 9 = .ok (.if_icmp .ge 72, 3) := by decide +kernel
theorem dX6_flow_12 : decode cX6_flow 12 = .ok (.aload_n 0, 1) := by decide +kernel
theorem dX6_flow_13 : decode cX6_flow 13 = .ok (.getfield 111, 3) := by decide +kernel
theorem dX6_flow_16 : decode cX6_flow 16 = .ok (.iload_n 3, 1) := by decide +kernel
theorem dX6_flow_17 : decode cX6_flow 17 = .ok (.aload_n 0, 1) := by decide +kernel
theorem dX6_flow_18 : decode cX6_flow 18 = .ok (.getfield 70, 3) := by decide +kernel
theorem dX6_flow_21 : decode cX6_flow 21 = .ok (.iload_n 3, 1) := by decide +kernel
theorem dX6_flow_22 : decode cX6_flow 22 = .ok (.baload, 1) := by decide +kernel
theorem dX6_flow_23 : decode cX6_flow 23 = .ok (.ifCond .eq 11, 3) := by decide +kernel
theorem dX6_flow_26 : decode cX6_flow 26 = .ok (.aload_n 0, 1) := by decide +kernel
theorem dX6_flow_27 : decode cX6_flow 27 = .ok (.iload_n 3, 1) := by decide +kernel
theorem dX6_flow_28 : decode cX6_flow 28 = .ok (.invokevirtual 333, 3) := by decide +kernel
theorem dX6_flow_31 : decode cX6_flow 31 = .ok (.goto 4, 3) := by decide +kernel
theorem dX6_flow_34 : decode cX6_flow 34 = .ok (.iconst 0, 1) := by decide +kernel
theorem dX6_flow_35 : decode cX6_flow 35 = .ok (.iastore, 1) := by decide +kernel
theorem dX6_flow_36 : decode cX6_flow 36 = .ok (.aload_n 0, 1) := by decide +kernel
theorem dX6_flow_37 : decode cX6_flow 37 = .ok (.getfield 123, 3) := by decide +kernel
theorem dX6_flow_40 : decode cX6_flow 40 = .ok (.iload_n 3, 1) := by decide +kernel
theorem dX6_flow_41 : decode cX6_flow 41 = .ok (.aload_n 0, 1) := by decide +kernel
theorem dX6_flow_42 : decode cX6_flow 42 = .ok (.getfield 70, 3) := by decide +kernel
theorem dX6_flow_45 : decode cX6_flow 45 = .ok (.iload_n 3, 1) := by decide +kernel
theorem dX6_flow_46 : decode cX6_flow 46 = .ok (.baload, 1) := by decide +kernel
theorem dX6_flow_47 : decode cX6_flow 47 = .ok (.ifCond .eq 16, 3) := by decide +kernel
theorem dX6_flow_50 : decode cX6_flow 50 = .ok (.aload_n 0, 1) := by decide +kernel
theorem dX6_flow_51 : decode cX6_flow 51 = .ok (.iload_n 3, 1) := by decide +kernel
theorem dX6_flow_52 : decode cX6_flow 52 = .ok (.invokevirtual 192, 3) := by decide +kernel
theorem dX6_flow_55 : decode cX6_flow 55 = .ok (.iconst (-1), 1) := by decide +kernel
theorem dX6_flow_56 : decode cX6_flow 56 = .ok (.if_icmp .ne 7, 3) := by decide +kernel
theorem dX6_flow_59 : decode cX6_flow 59 = .ok (.iconst 1, 1) := by decide +kernel
theorem dX6_flow_60 : decode cX6_flow 60 = .ok (.goto 4, 3) := by decide +kernel
theorem dX6_flow_63 : decode cX6_flow 63 = .ok (.iconst 0, 1) := by decide +kernel
theorem dX6_flow_64 : decode cX6_flow 64 = .ok (.bastore, 1) := by decide +kernel
theorem dX6_flow_65 : decode cX6_flow 65 = .ok (.lload_n 1, 1) := by decide +kernel
theorem dX6_flow_66 : decode cX6_flow 66 = .ok (.aload_n 0, 1) := by decide +kernel
theorem dX6_flow_67 : decode cX6_flow 67 = .ok (.getfield 111, 3) := by decide +kernel
theorem dX6_flow_70 : decode cX6_flow 70 = .ok (.iload_n 3, 1) := by decide +kernel
theorem dX6_flow_71 : decode cX6_flow 71 = .ok (.iaload, 1) := by decide +kernel
theorem dX6_flow_72 : decode cX6_flow 72 = .ok (.i2l, 1) := by decide +kernel
theorem dX6_flow_73 : decode cX6_flow 73 = .ok (.ladd, 1) := by decide +kernel
theorem dX6_flow_74 : decode cX6_flow 74 = .ok (.lstore_n 1, 1) := by decide +kernel
theorem dX6_flow_75 : decode cX6_flow 75 = .ok (.iinc 3 1, 3) := by decide +kernel
theorem dX6_flow_78 : decode cX6_flow 78 = .ok (.goto (-74), 3) := by decide +kernel
theorem dX6_flow_81 : decode cX6_flow 81 = .ok (.aload_n 0, 1) := by decide +kernel
theorem dX6_flow_82 : decode cX6_flow 82 = .ok (.getfield 319, 3) := by decide +kernel
theorem dX6_flow_85 : decode cX6_flow 85 = .ok (.istore_n 3, 1) := by decide +kernel
theorem dX6_flow_86 : decode cX6_flow 86 = .ok (.iconst 0, 1) := by decide +kernel
theorem dX6_flow_87 : decode cX6_flow 87 = .ok (.istore 4, 2) := by decide +kernel
theorem dX6_flow_89 : decode cX6_flow 89 = .ok (.iload 4, 2) := by decide +kernel
theorem dX6_flow_91 : decode cX6_flow 91 = .ok (.aload_n 0, 1) := by decide +kernel
theorem dX6_flow_92 : decode cX6_flow 92 = .ok (.getfield 165, 3) := by decide +kernel
theorem dX6_flow_95 : decode cX6_flow 95 = .ok (.if_icmp .ge 53, 3) := by decide +kernel
theorem dX6_flow_98 : decode cX6_flow 98 = .ok (.aload_n 0, 1) := by decide +kernel
theorem dX6_flow_99 : decode cX6_flow 99 = .ok (.getfield 61, 3) := by decide +kernel
theorem dX6_flow_102 : decode cX6_flow 102 = .ok (.iload 4, 2) := by decide +kernel
theorem dX6_flow_104 : decode cX6_flow 104 = .ok (.lload_n 1, 1) := by decide +kernel
theorem dX6_flow_105 : decode cX6_flow 105 = .ok (.lconst 0, 1) := by decide +kernel
theorem dX6_flow_106 : decode cX6_flow 106 = .ok (.lcmp, 1) := by decide +kernel
theorem dX6_flow_107 : decode cX6_flow 107 = .ok (.ifCond .ne 7, 3) := by decide +kernel
theorem dX6_flow_110 : decode cX6_flow 110 = .ok (.iconst 0, 1) := by decide +kernel
theorem dX6_flow_111 : decode cX6_flow 111 = .ok (.goto 20, 3) := by decide +kernel
theorem dX6_flow_114 : decode cX6_flow 114 = .ok (.aload_n 0, 1) := by decide +kernel
theorem dX6_flow_115 : decode cX6_flow 115 = .ok (.getfield 319, 3) := by decide +kernel
theorem dX6_flow_118 : decode cX6_flow 118 = .ok (.i2l, 1) := by decide +kernel
theorem dX6_flow_119 : decode cX6_flow 119 = .ok (.aload_n 0, 1) := by decide +kernel
theorem dX6_flow_120 : decode cX6_flow 120 = .ok (.getfield 111, 3) := by decide +kernel
theorem dX6_flow_123 : decode cX6_flow 123 = .ok (.iload 4, 2) := by decide +kernel
theorem dX6_flow_125 : decode cX6_flow 125 = .ok (.iaload, 1) := by decide +kernel
theorem dX6_flow_126 : decode cX6_flow 126 = .ok (.i2l, 1) := by decide +kernel
theorem dX6_flow_127 : decode cX6_flow 127 = .ok (.lmul, 1) := by decide +kernel
theorem dX6_flow_128 : decode cX6_flow 128 = .ok (.lload_n 1, 1) := by decide +kernel
theorem dX6_flow_129 : decode cX6_flow 129 = .ok (.ldiv, 1) := by decide +kernel
theorem dX6_flow_130 : decode cX6_flow 130 = .ok (.l2i, 1) := by decide +kernel
theorem dX6_flow_131 : decode cX6_flow 131 = .ok (.iastore, 1) := by decide +kernel
theorem dX6_flow_132 : decode cX6_flow 132 = .ok (.iload_n 3, 1) := by decide +kernel
theorem dX6_flow_133 : decode cX6_flow 133 = .ok (.aload_n 0, 1) := by decide +kernel
theorem dX6_flow_134 : decode cX6_flow 134 = .ok (.getfield 61, 3) := by decide +kernel
theorem dX6_flow_137 : decode cX6_flow 137 = .ok (.iload 4, 2) := by decide +kernel
theorem dX6_flow_139 : decode cX6_flow 139 = .ok (.iaload, 1) := by decide +kernel
theorem dX6_flow_140 : decode cX6_flow 140 = .ok (.isub, 1) := by decide +kernel
theorem dX6_flow_141 : decode cX6_flow 141 = .ok (.istore_n 3, 1) := by decide +kernel
theorem dX6_flow_142 : decode cX6_flow 142 = .ok (.iinc 4 1, 3) := by decide +kernel
theorem dX6_flow_145 : decode cX6_flow 145 = .ok (.goto (-56), 3) := by decide +kernel
theorem dX6_flow_148 : decode cX6_flow 148 = .ok (.iconst 0, 1) := by decide +kernel
theorem dX6_flow_149 : decode cX6_flow 149 = .ok (.istore 4, 2) := by decide +kernel
theorem dX6_flow_151 : decode cX6_flow 151 = .ok (.iload 4, 2) := by decide +kernel
theorem dX6_flow_153 : decode cX6_flow 153 = .ok (.aload_n 0, 1) := by decide +kernel
theorem dX6_flow_154 : decode cX6_flow 154 = .ok (.getfield 165, 3) := by decide +kernel
theorem dX6_flow_157 : decode cX6_flow 157 = .ok (.if_icmp .ge 43, 3) := by decide +kernel
theorem dX6_flow_160 : decode cX6_flow 160 = .ok (.lload_n 1, 1) := by decide +kernel
theorem dX6_flow_161 : decode cX6_flow 161 = .ok (.lconst 0, 1) := by decide +kernel
theorem dX6_flow_162 : decode cX6_flow 162 = .ok (.lcmp, 1) := by decide +kernel
theorem dX6_flow_163 : decode cX6_flow 163 = .ok (.ifCond .le 37, 3) := by decide +kernel
theorem dX6_flow_166 : decode cX6_flow 166 = .ok (.aload_n 0, 1) := by decide +kernel
theorem dX6_flow_167 : decode cX6_flow 167 = .ok (.getfield 111, 3) := by decide +kernel
theorem dX6_flow_170 : decode cX6_flow 170 = .ok (.iload 4, 2) := by decide +kernel
theorem dX6_flow_172 : decode cX6_flow 172 = .ok (.iaload, 1) := by decide +kernel
theorem dX6_flow_173 : decode cX6_flow 173 = .ok (.ifCond .le 21, 3) := by decide +kernel
theorem dX6_flow_176 : decode cX6_flow 176 = .ok (.iload_n 3, 1) := by decide +kernel
theorem dX6_flow_177 : decode cX6_flow 177 = .ok (.ifCond .le 17, 3) := by decide +kernel
theorem dX6_flow_180 : decode cX6_flow 180 = .ok (.aload_n 0, 1) := by decide +kernel
theorem dX6_flow_181 : decode cX6_flow 181 = .ok (.getfield 61, 3) := by decide +kernel
theorem dX6_flow_184 : decode cX6_flow 184 = .ok (.iload 4, 2) := by decide +kernel
theorem dX6_flow_186 : decode cX6_flow 186 = .ok (.dup2, 1) := by decide +kernel
theorem dX6_flow_187 : decode cX6_flow 187 = .ok (.iaload, 1) := by decide +kernel
theorem dX6_flow_188 : decode cX6_flow 188 = .ok (.iconst 1, 1) := by decide +kernel
theorem dX6_flow_189 : decode cX6_flow 189 = .ok (.iadd, 1) := by decide +kernel
theorem dX6_flow_190 : decode cX6_flow 190 = .ok (.iastore, 1) := by decide +kernel
theorem dX6_flow_191 : decode cX6_flow 191 = .ok (.iinc 3 (-1), 3) := by decide +kernel
theorem dX6_flow_194 : decode cX6_flow 194 = .ok (.iinc 4 1, 3) := by decide +kernel
theorem dX6_flow_197 : decode cX6_flow 197 = .ok (.goto (-46), 3) := by decide +kernel
theorem dX6_flow_200 : decode cX6_flow 200 = .ok (.iconst 0, 1) := by decide +kernel
theorem dX6_flow_201 : decode cX6_flow 201 = .ok (.istore 4, 2) := by decide +kernel
theorem dX6_flow_203 : decode cX6_flow 203 = .ok (.iload 4, 2) := by decide +kernel
theorem dX6_flow_205 : decode cX6_flow 205 = .ok (.aload_n 0, 1) := by decide +kernel
theorem dX6_flow_206 : decode cX6_flow 206 = .ok (.getfield 165, 3) := by decide +kernel
theorem dX6_flow_209 : decode cX6_flow 209 = .ok (.if_icmp .ge 45, 3) := by decide +kernel
theorem dX6_flow_212 : decode cX6_flow 212 = .ok (.aload_n 0, 1) := by decide +kernel
theorem dX6_flow_213 : decode cX6_flow 213 = .ok (.getfield 61, 3) := by decide +kernel
theorem dX6_flow_216 : decode cX6_flow 216 = .ok (.iload 4, 2) := by decide +kernel
theorem dX6_flow_218 : decode cX6_flow 218 = .ok (.iaload, 1) := by decide +kernel
theorem dX6_flow_219 : decode cX6_flow 219 = .ok (.ifCond .le 29, 3) := by decide +kernel
theorem dX6_flow_222 : decode cX6_flow 222 = .ok (.aload_n 0, 1) := by decide +kernel
theorem dX6_flow_223 : decode cX6_flow 223 = .ok (.getfield 64, 3) := by decide +kernel
theorem dX6_flow_226 : decode cX6_flow 226 = .ok (.iload 4, 2) := by decide +kernel
theorem dX6_flow_228 : decode cX6_flow 228 = .ok (.aload_n 0, 1) := by decide +kernel
theorem dX6_flow_229 : decode cX6_flow 229 = .ok (.iload 4, 2) := by decide +kernel
theorem dX6_flow_231 : decode cX6_flow 231 = .ok (.aload_n 0, 1) := by decide +kernel
theorem dX6_flow_232 : decode cX6_flow 232 = .ok (.getfield 61, 3) := by decide +kernel
theorem dX6_flow_235 : decode cX6_flow 235 = .ok (.iload 4, 2) := by decide +kernel
theorem dX6_flow_237 : decode cX6_flow 237 = .ok (.iaload, 1) := by decide +kernel
theorem dX6_flow_238 : decode cX6_flow 238 = .ok (.invokevirtual 206, 3) := by decide +kernel
theorem dX6_flow_241 : decode cX6_flow 241 = .ok (.iastore, 1) := by decide +kernel
theorem dX6_flow_242 : decode cX6_flow 242 = .ok (.aload_n 0, 1) := by decide +kernel
theorem dX6_flow_243 : decode cX6_flow 243 = .ok (.iload 4, 2) := by decide +kernel
theorem dX6_flow_245 : decode cX6_flow 245 = .ok (.invokevirtual 336, 3) := by decide +kernel
theorem dX6_flow_248 : decode cX6_flow 248 = .ok (.iinc 4 1, 3) := by decide +kernel
theorem dX6_flow_251 : decode cX6_flow 251 = .ok (.goto (-48), 3) := by decide +kernel
theorem dX6_flow_254 : decode cX6_flow 254 = .ok (.iconst (-1), 1) := by decide +kernel
theorem dX6_flow_255 : decode cX6_flow 255 = .ok (.istore 4, 2) := by decide +kernel
theorem dX6_flow_257 : decode cX6_flow 257 = .ok (.iconst 0, 1) := by decide +kernel
theorem dX6_flow_258 : decode cX6_flow 258 = .ok (.istore 5, 2) := by decide +kernel
theorem dX6_flow_260 : decode cX6_flow 260 = .ok (.iload 5, 2) := by decide +kernel
theorem dX6_flow_262 : decode cX6_flow 262 = .ok (.aload_n 0, 1) := by decide +kernel
theorem dX6_flow_263 : decode cX6_flow 263 = .ok (.getfield 165, 3) := by decide +kernel
theorem dX6_flow_266 : decode cX6_flow 266 = .ok (.if_icmp .ge 44, 3) := by decide +kernel
theorem dX6_flow_269 : decode cX6_flow 269 = .ok (.aload_n 0, 1) := by decide +kernel
theorem dX6_flow_270 : decode cX6_flow 270 = .ok (.getfield 67, 3) := by decide +kernel
theorem dX6_flow_273 : decode cX6_flow 273 = .ok (.iload 5, 2) := by decide +kernel
theorem dX6_flow_275 : decode cX6_flow 275 = .ok (.iconst 0, 1) := by decide +kernel
theorem dX6_flow_276 : decode cX6_flow 276 = .ok (.iastore, 1) := by decide +kernel
theorem dX6_flow_277 : decode cX6_flow 277 = .ok (.aload_n 0, 1) := by decide +kernel
theorem dX6_flow_278 : decode cX6_flow 278 = .ok (.getfield 114, 3) := by decide +kernel
theorem dX6_flow_281 : decode cX6_flow 281 = .ok (.iload 5, 2) := by decide +kernel
theorem dX6_flow_283 : decode cX6_flow 283 = .ok (.iconst 0, 1) := by decide +kernel
theorem dX6_flow_284 : decode cX6_flow 284 = .ok (.iastore, 1) := by decide +kernel
theorem dX6_flow_285 : decode cX6_flow 285 = .ok (.aload_n 0, 1) := by decide +kernel
theorem dX6_flow_286 : decode cX6_flow 286 = .ok (.getfield 61, 3) := by decide +kernel
theorem dX6_flow_289 : decode cX6_flow 289 = .ok (.iload 5, 2) := by decide +kernel
theorem dX6_flow_291 : decode cX6_flow 291 = .ok (.iaload, 1) := by decide +kernel
theorem dX6_flow_292 : decode cX6_flow 292 = .ok (.ifCond .le 8, 3) := by decide +kernel
theorem dX6_flow_295 : decode cX6_flow 295 = .ok (.iload 5, 2) := by decide +kernel
theorem dX6_flow_297 : decode cX6_flow 297 = .ok (.goto 5, 3) := by decide +kernel
theorem dX6_flow_300 : decode cX6_flow 300 = .ok (.iload 4, 2) := by decide +kernel
theorem dX6_flow_302 : decode cX6_flow 302 = .ok (.istore 4, 2) := by decide +kernel
theorem dX6_flow_304 : decode cX6_flow 304 = .ok (.iinc 5 1, 3) := by decide +kernel
theorem dX6_flow_307 : decode cX6_flow 307 = .ok (.goto (-47), 3) := by decide +kernel
theorem dX6_flow_310 : decode cX6_flow 310 = .ok (.iconst 0, 1) := by decide +kernel
theorem dX6_flow_311 : decode cX6_flow 311 = .ok (.istore 5, 2) := by decide +kernel
theorem dX6_flow_313 : decode cX6_flow 313 = .ok (.iload 5, 2) := by decide +kernel
theorem dX6_flow_315 : decode cX6_flow 315 = .ok (.bipush 8, 2) := by decide +kernel
theorem dX6_flow_317 : decode cX6_flow 317 = .ok (.if_icmp .ge 43, 3) := by decide +kernel
theorem dX6_flow_320 : decode cX6_flow 320 = .ok (.aload_n 0, 1) := by decide +kernel
theorem dX6_flow_321 : decode cX6_flow 321 = .ok (.iload 5, 2) := by decide +kernel
theorem dX6_flow_323 : decode cX6_flow 323 = .ok (.iconst 0, 1) := by decide +kernel
theorem dX6_flow_324 : decode cX6_flow 324 = .ok (.aload_n 0, 1) := by decide +kernel
theorem dX6_flow_325 : decode cX6_flow 325 = .ok (.getfield 95, 3) := by decide +kernel
theorem dX6_flow_328 : decode cX6_flow 328 = .ok (.iload 5, 2) := by decide +kernel
theorem dX6_flow_330 : decode cX6_flow 330 = .ok (.iaload, 1) := by decide +kernel
theorem dX6_flow_331 : decode cX6_flow 331 = .ok (.invokevirtual 338, 3) := by decide +kernel
theorem dX6_flow_334 : decode cX6_flow 334 = .ok (.iload 4, 2) := by decide +kernel
theorem dX6_flow_336 : decode cX6_flow 336 = .ok (.iconst (-1), 1) := by decide +kernel
theorem dX6_flow_337 : decode cX6_flow 337 = .ok (.if_icmp .ne 17, 3) := by decide +kernel
theorem dX6_flow_340 : decode cX6_flow 340 = .ok (.aload_n 0, 1) := by decide +kernel
theorem dX6_flow_341 : decode cX6_flow 341 = .ok (.iload 5, 2) := by decide +kernel
theorem dX6_flow_343 : decode cX6_flow 343 = .ok (.iconst 2, 1) := by decide +kernel
theorem dX6_flow_344 : decode cX6_flow 344 = .ok (.aload_n 0, 1) := by decide +kernel
theorem dX6_flow_345 : decode cX6_flow 345 = .ok (.getfield 95, 3) := by decide +kernel
theorem dX6_flow_348 : decode cX6_flow 348 = .ok (.iload 5, 2) := by decide +kernel
theorem dX6_flow_350 : decode cX6_flow 350 = .ok (.iaload, 1) := by decide +kernel
theorem dX6_flow_351 : decode cX6_flow 351 = .ok (.invokevirtual 338, 3) := by decide +kernel
theorem dX6_flow_354 : decode cX6_flow 354 = .ok (.iinc 5 1, 3) := by decide +kernel
theorem dX6_flow_357 : decode cX6_flow 357 = .ok (.goto (-44), 3) := by decide +kernel
theorem dX6_flow_360 : decode cX6_flow 360 = .ok (.iconst 0, 1) := by decide +kernel
theorem dX6_flow_361 : decode cX6_flow 361 = .ok (.istore 5, 2) := by decide +kernel
theorem dX6_flow_363 : decode cX6_flow 363 = .ok (.iload 5, 2) := by decide +kernel
theorem dX6_flow_365 : decode cX6_flow 365 = .ok (.iload 4, 2) := by decide +kernel
theorem dX6_flow_367 : decode cX6_flow 367 = .ok (.if_icmp .gt 25, 3) := by decide +kernel
theorem dX6_flow_370 : decode cX6_flow 370 = .ok (.aload_n 0, 1) := by decide +kernel
theorem dX6_flow_371 : decode cX6_flow 371 = .ok (.getfield 61, 3) := by decide +kernel
theorem dX6_flow_374 : decode cX6_flow 374 = .ok (.iload 5, 2) := by decide +kernel
theorem dX6_flow_376 : decode cX6_flow 376 = .ok (.iaload, 1) := by decide +kernel
theorem dX6_flow_377 : decode cX6_flow 377 = .ok (.ifCond .le 9, 3) := by decide +kernel
theorem dX6_flow_380 : decode cX6_flow 380 = .ok (.aload_n 0, 1) := by decide +kernel
theorem dX6_flow_381 : decode cX6_flow 381 = .ok (.iload 5, 2) := by decide +kernel
theorem dX6_flow_383 : decode cX6_flow 383 = .ok (.invokevirtual 342, 3) := by decide +kernel
theorem dX6_flow_386 : decode cX6_flow 386 = .ok (.iinc 5 1, 3) := by decide +kernel
theorem dX6_flow_389 : decode cX6_flow 389 = .ok (.goto (-26), 3) := by decide +kernel
theorem dX6_flow_392 : decode cX6_flow 392 = .ok (.iconst 0, 1) := by decide +kernel
theorem dX6_flow_393 : decode cX6_flow 393 = .ok (.istore 5, 2) := by decide +kernel
theorem dX6_flow_395 : decode cX6_flow 395 = .ok (.iload 5, 2) := by decide +kernel
theorem dX6_flow_397 : decode cX6_flow 397 = .ok (.aload_n 0, 1) := by decide +kernel
theorem dX6_flow_398 : decode cX6_flow 398 = .ok (.getfield 165, 3) := by decide +kernel
theorem dX6_flow_401 : decode cX6_flow 401 = .ok (.if_icmp .ge 55, 3) := by decide +kernel
theorem dX6_flow_404 : decode cX6_flow 404 = .ok (.aload_n 0, 1) := by decide +kernel
theorem dX6_flow_405 : decode cX6_flow 405 = .ok (.getfield 64, 3) := by decide +kernel
theorem dX6_flow_408 : decode cX6_flow 408 = .ok (.iload 5, 2) := by decide +kernel
theorem dX6_flow_410 : decode cX6_flow 410 = .ok (.iconst 0, 1) := by decide +kernel
theorem dX6_flow_411 : decode cX6_flow 411 = .ok (.aload_n 0, 1) := by decide +kernel
theorem dX6_flow_412 : decode cX6_flow 412 = .ok (.getfield 64, 3) := by decide +kernel
theorem dX6_flow_415 : decode cX6_flow 415 = .ok (.iload 5, 2) := by decide +kernel
theorem dX6_flow_417 : decode cX6_flow 417 = .ok (.iaload, 1) := by decide +kernel
theorem dX6_flow_418 : decode cX6_flow 418 = .ok (.invokestatic 172, 3) := by decide +kernel
theorem dX6_flow_421 : decode cX6_flow 421 = .ok (.iastore, 1) := by decide +kernel
theorem dX6_flow_422 : decode cX6_flow 422 = .ok (.aload_n 0, 1) := by decide +kernel
theorem dX6_flow_423 : decode cX6_flow 423 = .ok (.getfield 49, 3) := by decide +kernel
theorem dX6_flow_426 : decode cX6_flow 426 = .ok (.iload 5, 2) := by decide +kernel
theorem dX6_flow_428 : decode cX6_flow 428 = .ok (.aload_n 0, 1) := by decide +kernel
theorem dX6_flow_429 : decode cX6_flow 429 = .ok (.getfield 123, 3) := by decide +kernel
theorem dX6_flow_432 : decode cX6_flow 432 = .ok (.iload 5, 2) := by decide +kernel
theorem dX6_flow_434 : decode cX6_flow 434 = .ok (.baload, 1) := by decide +kernel
theorem dX6_flow_435 : decode cX6_flow 435 = .ok (.ifCond .eq 7, 3) := by decide +kernel
theorem dX6_flow_438 : decode cX6_flow 438 = .ok (.iconst 4, 1) := by decide +kernel
theorem dX6_flow_439 : decode cX6_flow 439 = .ok (.goto 10, 3) := by decide +kernel
theorem dX6_flow_442 : decode cX6_flow 442 = .ok (.aload_n 0, 1) := by decide +kernel
theorem dX6_flow_443 : decode cX6_flow 443 = .ok (.getfield 49, 3) := by decide +kernel
theorem dX6_flow_446 : decode cX6_flow 446 = .ok (.iload 5, 2) := by decide +kernel
theorem dX6_flow_448 : decode cX6_flow 448 = .ok (.iaload, 1) := by decide +kernel
theorem dX6_flow_449 : decode cX6_flow 449 = .ok (.iastore, 1) := by decide +kernel
theorem dX6_flow_450 : decode cX6_flow 450 = .ok (.iinc 5 1, 3) := by decide +kernel
theorem dX6_flow_453 : decode cX6_flow 453 = .ok (.goto (-58), 3) := by decide +kernel
theorem dX6_flow_456 : decode cX6_flow 456 = .ok (.return_, 1) := by decide +kernel
abbrev rm_X6_flow : Room := k2_rm 5 111
section
variable {p : Program} {l : Launch} {e : Env} {s : State} {m : MethodId} {args : Array Value} {below : List Frame} {meth : Method} {c : Code} {D : gD} {A : Nat → Prop} {ad : Nat → Nat} {S : Nat → Nat × Nat} {σ : Mem}
set_option maxRecDepth 100000 in
set_option maxHeartbeats 4000000 in
theorem w_X6_flow_L4 (Z : Cz D (Ew D A) A cX6_flow 6 none RX6 p s m args meth c) (hu0 : S 200 = (24, 0)) {r : Mem} {k81 : Mem → Int64 → Option Mem}
    (hk81 : ∀ (σ : Mem) (w1 : Int64) (H : Heap) (locs : List Loc) (ls : Array Slot), St D A ad S σ s.heap H locs → lv_has ls 6 [(0, .ref (ad 200)), (1, .long w1)] → k81 σ w1 = some r → W p l e rm_X6_flow s m args below meth c H locs 0 0 (MQ below (QG D A ad S none r) args s 0 0 A) (F0 m 81 ls [])) :
    ∀ (n : Nat) (σ : Mem) (v1 : Int64) (v3 : Int32) (H : Heap) (locs : List Loc) (ls : Array Slot), St D A ad S σ s.heap H locs → lv_has ls 6 [(0, .ref (ad 200)), (1, .long v1), (3, .int v3)] → f_X6_flow_L4 k81 n σ v1 v3 = some r → W p l e rm_X6_flow s m args below meth c H locs 0 0 (MQ below (QG D A ad S none r) args s 0 0 A) (F0 m 4 ls []) := by
  have hx := Z.1
  have hb := Z.2.1
  have hown := Z.2.2.2.2.2.1
  have hts := Z.2.2.2.2.2.2.1
  intro n
  induction n with
  | zero => intro σ v1 v3 H locs ls hS hl h; cases h
  | succ n ih =>
    intro σ v1 v3 H locs ls hS hl h
    unfold f_X6_flow_L4 at h
    refine lv_iload_n hx hb dX6_flow_4 rfl (lv_at hl 2 rfl) ?_
    refine lv_aload_n hx hb dX6_flow_5 rfl (lv_at hl 0 rfl) ?_
    refine h_getI Z hS cls_14 hu0 (by decide) rfl fl_X6_165_14 dX6_flow_6 h (fun x1 h => ?_)
    refine lv_icmp_ge (tgt := 81) hx hb dX6_flow_9 (by decide) (fun c2 => ?_) (fun c2 => ?_)
    · have h := if_t h c2
      exact hk81 _ _ _ _ _ hS (lv_sub hl [0, 1] rfl) h
    · have h := if_f h c2
      refine lv_aload_n hx hb dX6_flow_12 rfl (lv_at hl 0 rfl) ?_
      refine h_getC (n := 44) (j := 244) (sh := (1, 8)) Z hS cls_14 hu0 (by decide) rfl rfl rfl fl_X6_111_14 dX6_flow_13 (fun hc3 => ?_)
      refine lv_iload_n hx hb dX6_flow_16 rfl (lv_at hl 2 rfl) ?_
      refine lv_aload_n hx hb dX6_flow_17 rfl (lv_at hl 0 rfl) ?_
      refine h_getC (n := 23) (j := 223) (sh := (3, 9)) Z hS cls_14 hu0 (by decide) rfl rfl rfl fl_X6_70_14 dX6_flow_18 (fun hc4 => ?_)
      refine lv_iload_n hx hb dX6_flow_21 rfl (lv_at hl 2 rfl) ?_
      refine h_zald Z hS hc4 dX6_flow_22 h (fun x5 h => ?_)
      obtain ⟨x7, hp8, h⟩ := bnd_el h
      have K8 : ∀ (H : Heap) (locs : List Loc) (ls : Array Slot), St D A ad S σ s.heap H locs → lv_has ls 6 [(0, .ref (ad 200)), (1, .long v1), (3, .int v3)] → W p l e rm_X6_flow s m args below meth c H locs 0 0 (MQ below (QG D A ad S none r) args s 0 0 A) (F0 m 35 ls [.int x7, .int v3, .ref (ad 244)]) := by
        intro H locs ls hS hl
        refine h_iast Z hS hc3 dX6_flow_35 h (fun σ9 H locs hS h => ?_)
        refine lv_aload_n hx hb dX6_flow_36 rfl (lv_at hl 0 rfl) ?_
        refine h_getC (n := 48) (j := 248) (sh := (3, 8)) Z hS cls_14 hu0 (by decide) rfl rfl rfl fl_X6_123_14 dX6_flow_37 (fun hc10 => ?_)
        refine lv_iload_n hx hb dX6_flow_40 rfl (lv_at hl 2 rfl) ?_
        refine lv_aload_n hx hb dX6_flow_41 rfl (lv_at hl 0 rfl) ?_
        refine h_getC (n := 23) (j := 223) (sh := (3, 9)) Z hS cls_14 hu0 (by decide) rfl rfl rfl fl_X6_70_14 dX6_flow_42 (fun hc11 => ?_)
        refine lv_iload_n hx hb dX6_flow_45 rfl (lv_at hl 2 rfl) ?_
        refine h_zald Z hS hc11 dX6_flow_46 h (fun x12 h => ?_)
        obtain ⟨x14, hp15, h⟩ := bnd_el h
        have K15 : ∀ (H : Heap) (locs : List Loc) (ls : Array Slot), St D A ad S σ9 s.heap H locs → lv_has ls 6 [(0, .ref (ad 200)), (1, .long v1), (3, .int v3)] → W p l e rm_X6_flow s m args below meth c H locs 0 0 (MQ below (QG D A ad S none r) args s 0 0 A) (F0 m 64 ls [.int x14, .int v3, .ref (ad 248)]) := by
          intro H locs ls hS hl
          refine h_zast Z hS hc10 dX6_flow_64 h (fun σ16 H locs hS h => ?_)
          refine lv_lload_n hx hb dX6_flow_65 rfl (lv_at hl 1 rfl) ?_
          refine lv_aload_n hx hb dX6_flow_66 rfl (lv_at hl 0 rfl) ?_
          refine h_getC (n := 44) (j := 244) (sh := (1, 8)) Z hS cls_14 hu0 (by decide) rfl rfl rfl fl_X6_111_14 dX6_flow_67 (fun hc17 => ?_)
          refine lv_iload_n hx hb dX6_flow_70 rfl (lv_at hl 2 rfl) ?_
          refine h_iald Z hS hc17 dX6_flow_71 h (fun x18 h => ?_)
          refine lv_i2l hx hb dX6_flow_72 rfl ?_
          refine lv_ladd hx hb dX6_flow_73 ?_
          refine h_letl h (fun y19 h => ?_)
          refine lv_lstore_n (lv' := [(1, .long y19), (0, .ref (ad 200)), (3, .int v3)]) hx hb dX6_flow_74 rfl hl (by decide) rfl (fun ls hl => ?_)
          refine lv_iinc (v := (v3 + (1 : Int32))) (lv' := [(3, .int (v3 + (1 : Int32))), (1, .long y19), (0, .ref (ad 200))]) hx hb dX6_flow_75 hl (k := 2) rfl rfl (by decide) rfl (fun ls hl => ?_)
          refine lv_goto (tgt := 4) hx hb dX6_flow_78 (by decide) ?_
          exact ih _ _ _ _ _ _ hS (lv_sub hl [2, 1, 0] rfl) h
        clear h
        have h := hp15
        clear hp15
        refine lv_if_eq (tgt := 63) hx hb dX6_flow_47 (by decide) (fun c13 => ?_) (fun c13 => ?_)
        · have h := if_t h c13
          refine lv_iconst (v := (0 : Int32)) hx hb dX6_flow_63 (by decide) ?_
          cases h
          exact K15 _ _ _ hS (lv_sub hl [0, 1, 2] rfl)
        · have h := if_f h c13
          refine lv_aload_n hx hb dX6_flow_50 rfl (lv_at hl 0 rfl) ?_
          refine lv_iload_n hx hb dX6_flow_51 rfl (lv_at hl 2 rfl) ?_
          refine h_ci hS h (fun z hz => h_rV (rest := [.int v3, .ref (ad 248)]) Z hS hu0 rfl v_X6_192 (w_X6_bed hu0 hz) rfl rfl ⟨by decide, by decide⟩ rfl hl.1 rfl (Nat.le_of_ble_eq_true rfl) (Nat.zero_le _) (Nat.zero_le _) dX6_flow_52) (fun x20 H locs hS h => ?_)
          refine lv_iconst (v := (-1 : Int32)) hx hb dX6_flow_55 (by decide) ?_
          refine lv_icmp_ne (tgt := 63) hx hb dX6_flow_56 (by decide) (fun c21 => ?_) (fun c21 => ?_)
          · have h := if_f h c21
            refine lv_iconst (v := (0 : Int32)) hx hb dX6_flow_63 (by decide) ?_
            cases h
            exact K15 _ _ _ hS (lv_sub hl [0, 1, 2] rfl)
          · have h := if_t h c21
            refine lv_iconst (v := (1 : Int32)) hx hb dX6_flow_59 (by decide) ?_
            refine lv_goto (tgt := 64) hx hb dX6_flow_60 (by decide) ?_
            cases h
            exact K15 _ _ _ hS (lv_sub hl [0, 1, 2] rfl)
      clear h
      have h := hp8
      clear hp8
      refine lv_if_eq (tgt := 34) hx hb dX6_flow_23 (by decide) (fun c6 => ?_) (fun c6 => ?_)
      · have h := if_t h c6
        refine lv_iconst (v := (0 : Int32)) hx hb dX6_flow_34 (by decide) ?_
        cases h
        exact K8 _ _ _ hS (lv_sub hl [0, 1, 2] rfl)
      · have h := if_f h c6
        refine lv_aload_n hx hb dX6_flow_26 rfl (lv_at hl 0 rfl) ?_
        refine lv_iload_n hx hb dX6_flow_27 rfl (lv_at hl 2 rfl) ?_
        refine h_ci hS h (fun z hz => h_rV (rest := [.int v3, .ref (ad 244)]) Z hS hu0 rfl v_X6_333 (w_X6_weightOf hu0 hz) rfl rfl ⟨by decide, by decide⟩ rfl hl.1 rfl (Nat.le_of_ble_eq_true rfl) (Nat.zero_le _) (Nat.zero_le _) dX6_flow_28) (fun x22 H locs hS h => ?_)
        refine lv_goto (tgt := 35) hx hb dX6_flow_31 (by decide) ?_
        cases h
        exact K8 _ _ _ hS (lv_sub hl [0, 1, 2] rfl)
set_option maxRecDepth 100000 in
set_option maxHeartbeats 4000000 in
theorem w_X6_flow_L89 (Z : Cz D (Ew D A) A cX6_flow 6 none RX6 p s m args meth c) {u1 : Int64} (hu0 : S 200 = (24, 0)) {r : Mem} {k148 : Mem → Int32 → Option Mem}
    (hk148 : ∀ (σ : Mem) (w3 : Int32) (H : Heap) (locs : List Loc) (ls : Array Slot), St D A ad S σ s.heap H locs → lv_has ls 6 [(0, .ref (ad 200)), (1, .long u1), (3, .int w3)] → k148 σ w3 = some r → W p l e rm_X6_flow s m args below meth c H locs 0 0 (MQ below (QG D A ad S none r) args s 0 0 A) (F0 m 148 ls [])) :
    ∀ (n : Nat) (σ : Mem) (v3 : Int32) (v4 : Int32) (H : Heap) (locs : List Loc) (ls : Array Slot), St D A ad S σ s.heap H locs → lv_has ls 6 [(0, .ref (ad 200)), (1, .long u1), (3, .int v3), (4, .int v4)] → f_X6_flow_L89 k148 u1 n σ v3 v4 = some r → W p l e rm_X6_flow s m args below meth c H locs 0 0 (MQ below (QG D A ad S none r) args s 0 0 A) (F0 m 89 ls []) := by
  have hx := Z.1
  have hb := Z.2.1
  have hown := Z.2.2.2.2.2.1
  have hts := Z.2.2.2.2.2.2.1
  intro n
  induction n with
  | zero => intro σ v3 v4 H locs ls hS hl h; cases h
  | succ n ih =>
    intro σ v3 v4 H locs ls hS hl h
    unfold f_X6_flow_L89 at h
    refine lv_iload hx hb dX6_flow_89 (lv_at hl 3 rfl) ?_
    refine lv_aload_n hx hb dX6_flow_91 rfl (lv_at hl 0 rfl) ?_
    refine h_getI Z hS cls_14 hu0 (by decide) rfl fl_X6_165_14 dX6_flow_92 h (fun x26 h => ?_)
    refine lv_icmp_ge (tgt := 148) hx hb dX6_flow_95 (by decide) (fun c27 => ?_) (fun c27 => ?_)
    · have h := if_t h c27
      exact hk148 _ _ _ _ _ hS (lv_sub hl [0, 1, 2] rfl) h
    · have h := if_f h c27
      refine lv_aload_n hx hb dX6_flow_98 rfl (lv_at hl 0 rfl) ?_
      refine h_getC (n := 20) (j := 220) (sh := (1, 9)) Z hS cls_14 hu0 (by decide) rfl rfl rfl fl_X6_61_14 dX6_flow_99 (fun hc28 => ?_)
      refine lv_iload hx hb dX6_flow_102 (lv_at hl 3 rfl) ?_
      refine lv_lload_n hx hb dX6_flow_104 rfl (lv_at hl 1 rfl) ?_
      refine lv_lconst (v := (0 : Int64)) hx hb dX6_flow_105 (by decide) ?_
      obtain ⟨x30, hp31, h⟩ := bnd_el h
      have K31 : ∀ (H : Heap) (locs : List Loc) (ls : Array Slot), St D A ad S σ s.heap H locs → lv_has ls 6 [(0, .ref (ad 200)), (1, .long u1), (3, .int v3), (4, .int v4)] → W p l e rm_X6_flow s m args below meth c H locs 0 0 (MQ below (QG D A ad S none r) args s 0 0 A) (F0 m 131 ls [.int x30, .int v4, .ref (ad 220)]) := by
        intro H locs ls hS hl
        refine h_iast Z hS hc28 dX6_flow_131 h (fun σ32 H locs hS h => ?_)
        refine lv_iload_n hx hb dX6_flow_132 rfl (lv_at hl 2 rfl) ?_
        refine lv_aload_n hx hb dX6_flow_133 rfl (lv_at hl 0 rfl) ?_
        refine h_getC (n := 20) (j := 220) (sh := (1, 9)) Z hS cls_14 hu0 (by decide) rfl rfl rfl fl_X6_61_14 dX6_flow_134 (fun hc33 => ?_)
        refine lv_iload hx hb dX6_flow_137 (lv_at hl 3 rfl) ?_
        refine h_iald Z hS hc33 dX6_flow_139 h (fun x34 h => ?_)
        refine lv_isub hx hb dX6_flow_140 ?_
        refine h_leti h (fun x35 h => ?_)
        refine lv_istore_n (lv' := [(3, .int x35), (0, .ref (ad 200)), (1, .long u1), (4, .int v4)]) hx hb dX6_flow_141 rfl hl (by decide) rfl (fun ls hl => ?_)
        refine lv_iinc (v := (v4 + (1 : Int32))) (lv' := [(4, .int (v4 + (1 : Int32))), (3, .int x35), (0, .ref (ad 200)), (1, .long u1)]) hx hb dX6_flow_142 hl (k := 3) rfl rfl (by decide) rfl (fun ls hl => ?_)
        refine lv_goto (tgt := 89) hx hb dX6_flow_145 (by decide) ?_
        exact ih _ _ _ _ _ _ hS (lv_sub hl [2, 3, 1, 0] rfl) h
      clear h
      have h := hp31
      clear hp31
      refine y_lcmp_ne (tgt := 114) hx hb dX6_flow_106 dX6_flow_107 (by decide) (fun c29 => ?_) (fun c29 => ?_)
      · have h := if_f h c29
        refine lv_aload_n hx hb dX6_flow_114 rfl (lv_at hl 0 rfl) ?_
        refine h_getI Z hS cls_14 hu0 (by decide) rfl fl_X6_319_14 dX6_flow_115 h (fun x36 h => ?_)
        refine lv_i2l hx hb dX6_flow_118 rfl ?_
        refine lv_aload_n hx hb dX6_flow_119 rfl (lv_at hl 0 rfl) ?_
        refine h_getC (n := 44) (j := 244) (sh := (1, 8)) Z hS cls_14 hu0 (by decide) rfl rfl rfl fl_X6_111_14 dX6_flow_120 (fun hc37 => ?_)
        refine lv_iload hx hb dX6_flow_123 (lv_at hl 3 rfl) ?_
        refine h_iald Z hS hc37 dX6_flow_125 h (fun x38 h => ?_)
        refine lv_i2l hx hb dX6_flow_126 rfl ?_
        refine lv_lmul hx hb dX6_flow_127 ?_
        refine lv_lload_n hx hb dX6_flow_128 rfl (lv_at hl 1 rfl) ?_
        refine h_ldiv Z dX6_flow_129 h (fun h => ?_)
        refine lv_l2i hx hb dX6_flow_130 rfl ?_
        cases h
        exact K31 _ _ _ hS (lv_sub hl [0, 1, 2, 3] rfl)
      · have h := if_t h c29
        refine lv_iconst (v := (0 : Int32)) hx hb dX6_flow_110 (by decide) ?_
        refine lv_goto (tgt := 131) hx hb dX6_flow_111 (by decide) ?_
        cases h
        exact K31 _ _ _ hS (lv_sub hl [0, 1, 2, 3] rfl)
set_option maxRecDepth 100000 in
set_option maxHeartbeats 4000000 in
theorem w_X6_flow_L151 (Z : Cz D (Ew D A) A cX6_flow 6 none RX6 p s m args meth c) {u1 : Int64} (hu0 : S 200 = (24, 0)) {r : Mem} {k200 : Mem → Option Mem}
    (hk200 : ∀ (σ : Mem)  (H : Heap) (locs : List Loc) (ls : Array Slot), St D A ad S σ s.heap H locs → lv_has ls 6 [(0, .ref (ad 200))] → k200 σ = some r → W p l e rm_X6_flow s m args below meth c H locs 0 0 (MQ below (QG D A ad S none r) args s 0 0 A) (F0 m 200 ls [])) :
    ∀ (n : Nat) (σ : Mem) (v3 : Int32) (v4 : Int32) (H : Heap) (locs : List Loc) (ls : Array Slot), St D A ad S σ s.heap H locs → lv_has ls 6 [(0, .ref (ad 200)), (1, .long u1), (3, .int v3), (4, .int v4)] → f_X6_flow_L151 k200 u1 n σ v3 v4 = some r → W p l e rm_X6_flow s m args below meth c H locs 0 0 (MQ below (QG D A ad S none r) args s 0 0 A) (F0 m 151 ls []) := by
  have hx := Z.1
  have hb := Z.2.1
  have hown := Z.2.2.2.2.2.1
  have hts := Z.2.2.2.2.2.2.1
  intro n
  induction n with
  | zero => intro σ v3 v4 H locs ls hS hl h; cases h
  | succ n ih =>
    intro σ v3 v4 H locs ls hS hl h
    unfold f_X6_flow_L151 at h
    refine lv_iload hx hb dX6_flow_151 (lv_at hl 3 rfl) ?_
    refine lv_aload_n hx hb dX6_flow_153 rfl (lv_at hl 0 rfl) ?_
    refine h_getI Z hS cls_14 hu0 (by decide) rfl fl_X6_165_14 dX6_flow_154 h (fun x41 h => ?_)
    refine lv_icmp_ge (tgt := 200) hx hb dX6_flow_157 (by decide) (fun c42 => ?_) (fun c42 => ?_)
    · have h := if_t h c42
      exact hk200 _ _ _ _ hS (lv_sub hl [0] rfl) h
    · have h := if_f h c42
      refine lv_lload_n hx hb dX6_flow_160 rfl (lv_at hl 1 rfl) ?_
      refine lv_lconst (v := (0 : Int64)) hx hb dX6_flow_161 (by decide) ?_
      refine y_lcmp_le (tgt := 200) hx hb dX6_flow_162 dX6_flow_163 (by decide) (fun c43 => ?_) (fun c43 => ?_)
      · have h := if_t h c43
        exact hk200 _ _ _ _ hS (lv_sub hl [0] rfl) h
      · have h := if_f h c43
        refine lv_aload_n hx hb dX6_flow_166 rfl (lv_at hl 0 rfl) ?_
        refine h_getC (n := 44) (j := 244) (sh := (1, 8)) Z hS cls_14 hu0 (by decide) rfl rfl rfl fl_X6_111_14 dX6_flow_167 (fun hc44 => ?_)
        refine lv_iload hx hb dX6_flow_170 (lv_at hl 3 rfl) ?_
        refine h_iald Z hS hc44 dX6_flow_172 h (fun x45 h => ?_)
        refine lv_if_le (tgt := 194) hx hb dX6_flow_173 (by decide) (fun c46 => ?_) (fun c46 => ?_)
        · have h := if_t h c46
          refine lv_iinc (v := (v4 + (1 : Int32))) (lv' := [(4, .int (v4 + (1 : Int32))), (0, .ref (ad 200)), (1, .long u1), (3, .int v3)]) hx hb dX6_flow_194 hl (k := 3) rfl rfl (by decide) rfl (fun ls hl => ?_)
          refine lv_goto (tgt := 151) hx hb dX6_flow_197 (by decide) ?_
          exact ih _ _ _ _ _ _ hS (lv_sub hl [1, 2, 3, 0] rfl) h
        · have h := if_f h c46
          refine lv_iload_n hx hb dX6_flow_176 rfl (lv_at hl 2 rfl) ?_
          refine lv_if_le (tgt := 194) hx hb dX6_flow_177 (by decide) (fun c47 => ?_) (fun c47 => ?_)
          · have h := if_t h c47
            refine lv_iinc (v := (v4 + (1 : Int32))) (lv' := [(4, .int (v4 + (1 : Int32))), (0, .ref (ad 200)), (1, .long u1), (3, .int v3)]) hx hb dX6_flow_194 hl (k := 3) rfl rfl (by decide) rfl (fun ls hl => ?_)
            refine lv_goto (tgt := 151) hx hb dX6_flow_197 (by decide) ?_
            exact ih _ _ _ _ _ _ hS (lv_sub hl [1, 2, 3, 0] rfl) h
          · have h := if_f h c47
            refine lv_aload_n hx hb dX6_flow_180 rfl (lv_at hl 0 rfl) ?_
            refine h_getC (n := 20) (j := 220) (sh := (1, 9)) Z hS cls_14 hu0 (by decide) rfl rfl rfl fl_X6_61_14 dX6_flow_181 (fun hc48 => ?_)
            refine lv_iload hx hb dX6_flow_184 (lv_at hl 3 rfl) ?_
            refine lv_dup2_11 hx hb dX6_flow_186 rfl rfl ?_
            refine h_iald Z hS hc48 dX6_flow_187 h (fun x49 h => ?_)
            refine lv_iconst (v := (1 : Int32)) hx hb dX6_flow_188 (by decide) ?_
            refine lv_iadd hx hb dX6_flow_189 ?_
            refine h_iast Z hS hc48 dX6_flow_190 h (fun σ50 H locs hS h => ?_)
            refine lv_iinc (v := (v3 + (-1 : Int32))) (lv' := [(3, .int (v3 + (-1 : Int32))), (0, .ref (ad 200)), (1, .long u1), (4, .int v4)]) hx hb dX6_flow_191 hl (k := 2) rfl rfl (by decide) rfl (fun ls hl => ?_)
            refine lv_iinc (v := (v4 + (1 : Int32))) (lv' := [(4, .int (v4 + (1 : Int32))), (3, .int (v3 + (-1 : Int32))), (0, .ref (ad 200)), (1, .long u1)]) hx hb dX6_flow_194 hl (k := 3) rfl rfl (by decide) rfl (fun ls hl => ?_)
            refine lv_goto (tgt := 151) hx hb dX6_flow_197 (by decide) ?_
            exact ih _ _ _ _ _ _ hS (lv_sub hl [2, 3, 1, 0] rfl) h
set_option maxRecDepth 100000 in
set_option maxHeartbeats 4000000 in
theorem w_X6_flow_L203 (Z : Cz D (Ew D A) A cX6_flow 6 none RX6 p s m args meth c) (hu0 : S 200 = (24, 0)) {r : Mem} {k254 : Mem → Option Mem}
    (hk254 : ∀ (σ : Mem)  (H : Heap) (locs : List Loc) (ls : Array Slot), St D A ad S σ s.heap H locs → lv_has ls 6 [(0, .ref (ad 200))] → k254 σ = some r → W p l e rm_X6_flow s m args below meth c H locs 0 0 (MQ below (QG D A ad S none r) args s 0 0 A) (F0 m 254 ls [])) :
    ∀ (n : Nat) (σ : Mem) (v4 : Int32) (H : Heap) (locs : List Loc) (ls : Array Slot), St D A ad S σ s.heap H locs → lv_has ls 6 [(0, .ref (ad 200)), (4, .int v4)] → f_X6_flow_L203 k254 n σ v4 = some r → W p l e rm_X6_flow s m args below meth c H locs 0 0 (MQ below (QG D A ad S none r) args s 0 0 A) (F0 m 203 ls []) := by
  have hx := Z.1
  have hb := Z.2.1
  have hown := Z.2.2.2.2.2.1
  have hts := Z.2.2.2.2.2.2.1
  intro n
  induction n with
  | zero => intro σ v4 H locs ls hS hl h; cases h
  | succ n ih =>
    intro σ v4 H locs ls hS hl h
    unfold f_X6_flow_L203 at h
    refine lv_iload hx hb dX6_flow_203 (lv_at hl 1 rfl) ?_
    refine lv_aload_n hx hb dX6_flow_205 rfl (lv_at hl 0 rfl) ?_
    refine h_getI Z hS cls_14 hu0 (by decide) rfl fl_X6_165_14 dX6_flow_206 h (fun x52 h => ?_)
    refine lv_icmp_ge (tgt := 254) hx hb dX6_flow_209 (by decide) (fun c53 => ?_) (fun c53 => ?_)
    · have h := if_t h c53
      exact hk254 _ _ _ _ hS (lv_sub hl [0] rfl) h
    · have h := if_f h c53
      refine lv_aload_n hx hb dX6_flow_212 rfl (lv_at hl 0 rfl) ?_
      refine h_getC (n := 20) (j := 220) (sh := (1, 9)) Z hS cls_14 hu0 (by decide) rfl rfl rfl fl_X6_61_14 dX6_flow_213 (fun hc54 => ?_)
      refine lv_iload hx hb dX6_flow_216 (lv_at hl 1 rfl) ?_
      refine h_iald Z hS hc54 dX6_flow_218 h (fun x55 h => ?_)
      refine lv_if_le (tgt := 248) hx hb dX6_flow_219 (by decide) (fun c56 => ?_) (fun c56 => ?_)
      · have h := if_t h c56
        refine lv_iinc (v := (v4 + (1 : Int32))) (lv' := [(4, .int (v4 + (1 : Int32))), (0, .ref (ad 200))]) hx hb dX6_flow_248 hl (k := 1) rfl rfl (by decide) rfl (fun ls hl => ?_)
        refine lv_goto (tgt := 203) hx hb dX6_flow_251 (by decide) ?_
        exact ih _ _ _ _ _ hS (lv_sub hl [1, 0] rfl) h
      · have h := if_f h c56
        refine lv_aload_n hx hb dX6_flow_222 rfl (lv_at hl 0 rfl) ?_
        refine h_getC (n := 21) (j := 221) (sh := (1, 9)) Z hS cls_14 hu0 (by decide) rfl rfl rfl fl_X6_64_14 dX6_flow_223 (fun hc57 => ?_)
        refine lv_iload hx hb dX6_flow_226 (lv_at hl 1 rfl) ?_
        refine lv_aload_n hx hb dX6_flow_228 rfl (lv_at hl 0 rfl) ?_
        refine lv_iload hx hb dX6_flow_229 (lv_at hl 1 rfl) ?_
        refine lv_aload_n hx hb dX6_flow_231 rfl (lv_at hl 0 rfl) ?_
        refine h_getC (n := 20) (j := 220) (sh := (1, 9)) Z hS cls_14 hu0 (by decide) rfl rfl rfl fl_X6_61_14 dX6_flow_232 (fun hc58 => ?_)
        refine lv_iload hx hb dX6_flow_235 (lv_at hl 1 rfl) ?_
        refine h_iald Z hS hc58 dX6_flow_237 h (fun x59 h => ?_)
        refine h_ci hS h (fun z hz => h_rV (rest := [.int v4, .ref (ad 221)]) Z hS hu0 rfl v_X6_206 (w_X6_pushFor hu0 hz) rfl rfl ⟨by decide, by decide⟩ rfl hl.1 rfl (Nat.le_of_ble_eq_true rfl) (Nat.zero_le _) (Nat.zero_le _) dX6_flow_238) (fun x60 H locs hS h => ?_)
        refine h_iast Z hS hc57 dX6_flow_241 h (fun σ61 H locs hS h => ?_)
        refine lv_aload_n hx hb dX6_flow_242 rfl (lv_at hl 0 rfl) ?_
        refine lv_iload hx hb dX6_flow_243 (lv_at hl 1 rfl) ?_
        refine h_cm hS h (fun z hz => h_rV (rest := []) Z hS hu0 rfl v_X6_336 (w_X6_look_2 hu0 hz) rfl rfl ⟨by decide, by decide⟩ rfl hl.1 rfl (Nat.le_of_ble_eq_true rfl) (Nat.zero_le _) (Nat.zero_le _) dX6_flow_245) (fun σ62 H locs hS h => ?_)
        refine lv_iinc (v := (v4 + (1 : Int32))) (lv' := [(4, .int (v4 + (1 : Int32))), (0, .ref (ad 200))]) hx hb dX6_flow_248 hl (k := 1) rfl rfl (by decide) rfl (fun ls hl => ?_)
        refine lv_goto (tgt := 203) hx hb dX6_flow_251 (by decide) ?_
        exact ih _ _ _ _ _ hS (lv_sub hl [1, 0] rfl) h
set_option maxRecDepth 100000 in
set_option maxHeartbeats 4000000 in
theorem w_X6_flow_L260 (Z : Cz D (Ew D A) A cX6_flow 6 none RX6 p s m args meth c) (hu0 : S 200 = (24, 0)) {r : Mem} {k310 : Mem → Int32 → Option Mem}
    (hk310 : ∀ (σ : Mem) (w4 : Int32) (H : Heap) (locs : List Loc) (ls : Array Slot), St D A ad S σ s.heap H locs → lv_has ls 6 [(0, .ref (ad 200)), (4, .int w4)] → k310 σ w4 = some r → W p l e rm_X6_flow s m args below meth c H locs 0 0 (MQ below (QG D A ad S none r) args s 0 0 A) (F0 m 310 ls [])) :
    ∀ (n : Nat) (σ : Mem) (v4 : Int32) (v5 : Int32) (H : Heap) (locs : List Loc) (ls : Array Slot), St D A ad S σ s.heap H locs → lv_has ls 6 [(0, .ref (ad 200)), (4, .int v4), (5, .int v5)] → f_X6_flow_L260 k310 n σ v4 v5 = some r → W p l e rm_X6_flow s m args below meth c H locs 0 0 (MQ below (QG D A ad S none r) args s 0 0 A) (F0 m 260 ls []) := by
  have hx := Z.1
  have hb := Z.2.1
  have hown := Z.2.2.2.2.2.1
  have hts := Z.2.2.2.2.2.2.1
  intro n
  induction n with
  | zero => intro σ v4 v5 H locs ls hS hl h; cases h
  | succ n ih =>
    intro σ v4 v5 H locs ls hS hl h
    unfold f_X6_flow_L260 at h
    refine lv_iload hx hb dX6_flow_260 (lv_at hl 2 rfl) ?_
    refine lv_aload_n hx hb dX6_flow_262 rfl (lv_at hl 0 rfl) ?_
    refine h_getI Z hS cls_14 hu0 (by decide) rfl fl_X6_165_14 dX6_flow_263 h (fun x64 h => ?_)
    refine lv_icmp_ge (tgt := 310) hx hb dX6_flow_266 (by decide) (fun c65 => ?_) (fun c65 => ?_)
    · have h := if_t h c65
      exact hk310 _ _ _ _ _ hS (lv_sub hl [0, 1] rfl) h
    · have h := if_f h c65
      refine lv_aload_n hx hb dX6_flow_269 rfl (lv_at hl 0 rfl) ?_
      refine h_getC (n := 22) (j := 222) (sh := (1, 9)) Z hS cls_14 hu0 (by decide) rfl rfl rfl fl_X6_67_14 dX6_flow_270 (fun hc66 => ?_)
      refine lv_iload hx hb dX6_flow_273 (lv_at hl 2 rfl) ?_
      refine lv_iconst (v := (0 : Int32)) hx hb dX6_flow_275 (by decide) ?_
      refine h_iast Z hS hc66 dX6_flow_276 h (fun σ67 H locs hS h => ?_)
      refine lv_aload_n hx hb dX6_flow_277 rfl (lv_at hl 0 rfl) ?_
      refine h_getC (n := 45) (j := 245) (sh := (1, 8)) Z hS cls_14 hu0 (by decide) rfl rfl rfl fl_X6_114_14 dX6_flow_278 (fun hc68 => ?_)
      refine lv_iload hx hb dX6_flow_281 (lv_at hl 2 rfl) ?_
      refine lv_iconst (v := (0 : Int32)) hx hb dX6_flow_283 (by decide) ?_
      refine h_iast Z hS hc68 dX6_flow_284 h (fun σ69 H locs hS h => ?_)
      refine lv_aload_n hx hb dX6_flow_285 rfl (lv_at hl 0 rfl) ?_
      refine h_getC (n := 20) (j := 220) (sh := (1, 9)) Z hS cls_14 hu0 (by decide) rfl rfl rfl fl_X6_61_14 dX6_flow_286 (fun hc70 => ?_)
      refine lv_iload hx hb dX6_flow_289 (lv_at hl 2 rfl) ?_
      refine h_iald Z hS hc70 dX6_flow_291 h (fun x71 h => ?_)
      refine lv_if_le (tgt := 300) hx hb dX6_flow_292 (by decide) (fun c72 => ?_) (fun c72 => ?_)
      · have h := if_t h c72
        refine lv_iload hx hb dX6_flow_300 (lv_at hl 1 rfl) ?_
        refine lv_istore (lv' := [(4, .int v4), (0, .ref (ad 200)), (5, .int v5)]) hx hb dX6_flow_302 hl (by decide) rfl (fun ls hl => ?_)
        refine lv_iinc (v := (v5 + (1 : Int32))) (lv' := [(5, .int (v5 + (1 : Int32))), (4, .int v4), (0, .ref (ad 200))]) hx hb dX6_flow_304 hl (k := 2) rfl rfl (by decide) rfl (fun ls hl => ?_)
        refine lv_goto (tgt := 260) hx hb dX6_flow_307 (by decide) ?_
        exact ih _ _ _ _ _ _ hS (lv_sub hl [2, 1, 0] rfl) h
      · have h := if_f h c72
        refine lv_iload hx hb dX6_flow_295 (lv_at hl 2 rfl) ?_
        refine lv_goto (tgt := 302) hx hb dX6_flow_297 (by decide) ?_
        refine lv_istore (lv' := [(4, .int v5), (0, .ref (ad 200)), (5, .int v5)]) hx hb dX6_flow_302 hl (by decide) rfl (fun ls hl => ?_)
        refine lv_iinc (v := (v5 + (1 : Int32))) (lv' := [(5, .int (v5 + (1 : Int32))), (4, .int v5), (0, .ref (ad 200))]) hx hb dX6_flow_304 hl (k := 2) rfl rfl (by decide) rfl (fun ls hl => ?_)
        refine lv_goto (tgt := 260) hx hb dX6_flow_307 (by decide) ?_
        exact ih _ _ _ _ _ _ hS (lv_sub hl [2, 1, 0] rfl) h
set_option maxRecDepth 100000 in
set_option maxHeartbeats 4000000 in
theorem w_X6_flow_L313 (Z : Cz D (Ew D A) A cX6_flow 6 none RX6 p s m args meth c) {u4 : Int32} (hu0 : S 200 = (24, 0)) {r : Mem} {k360 : Mem → Option Mem}
    (hk360 : ∀ (σ : Mem)  (H : Heap) (locs : List Loc) (ls : Array Slot), St D A ad S σ s.heap H locs → lv_has ls 6 [(0, .ref (ad 200)), (4, .int u4)] → k360 σ = some r → W p l e rm_X6_flow s m args below meth c H locs 0 0 (MQ below (QG D A ad S none r) args s 0 0 A) (F0 m 360 ls [])) :
    ∀ (n : Nat) (σ : Mem) (v5 : Int32) (H : Heap) (locs : List Loc) (ls : Array Slot), St D A ad S σ s.heap H locs → lv_has ls 6 [(0, .ref (ad 200)), (4, .int u4), (5, .int v5)] → f_X6_flow_L313 k360 u4 n σ v5 = some r → W p l e rm_X6_flow s m args below meth c H locs 0 0 (MQ below (QG D A ad S none r) args s 0 0 A) (F0 m 313 ls []) := by
  have hx := Z.1
  have hb := Z.2.1
  have hown := Z.2.2.2.2.2.1
  have hts := Z.2.2.2.2.2.2.1
  intro n
  induction n with
  | zero => intro σ v5 H locs ls hS hl h; cases h
  | succ n ih =>
    intro σ v5 H locs ls hS hl h
    unfold f_X6_flow_L313 at h
    refine lv_iload hx hb dX6_flow_313 (lv_at hl 2 rfl) ?_
    refine lv_bipush (v := (8 : Int32)) hx hb dX6_flow_315 (by decide) ?_
    refine lv_icmp_ge (tgt := 360) hx hb dX6_flow_317 (by decide) (fun c75 => ?_) (fun c75 => ?_)
    · have h := if_t h c75
      exact hk360 _ _ _ _ hS (lv_sub hl [0, 1] rfl) h
    · have h := if_f h c75
      refine lv_aload_n hx hb dX6_flow_320 rfl (lv_at hl 0 rfl) ?_
      refine lv_iload hx hb dX6_flow_321 (lv_at hl 2 rfl) ?_
      refine lv_iconst (v := (0 : Int32)) hx hb dX6_flow_323 (by decide) ?_
      refine lv_aload_n hx hb dX6_flow_324 rfl (lv_at hl 0 rfl) ?_
      refine h_getC (n := 39) (j := 239) (sh := (1, 8)) Z hS cls_14 hu0 (by decide) rfl rfl rfl fl_X6_95_14 dX6_flow_325 (fun hc76 => ?_)
      refine lv_iload hx hb dX6_flow_328 (lv_at hl 2 rfl) ?_
      refine h_iald Z hS hc76 dX6_flow_330 h (fun x77 h => ?_)
      refine h_cm hS h (fun z hz => h_rV (rest := []) Z hS hu0 rfl v_X6_338 (w_X6_tell hu0 hz) rfl rfl ⟨by decide, by decide⟩ rfl hl.1 rfl (Nat.le_of_ble_eq_true rfl) (Nat.zero_le _) (Nat.zero_le _) dX6_flow_331) (fun σ78 H locs hS h => ?_)
      refine lv_iload hx hb dX6_flow_334 (lv_at hl 1 rfl) ?_
      refine lv_iconst (v := (-1 : Int32)) hx hb dX6_flow_336 (by decide) ?_
      refine lv_icmp_ne (tgt := 354) hx hb dX6_flow_337 (by decide) (fun c79 => ?_) (fun c79 => ?_)
      · have h := if_f h c79
        refine lv_iinc (v := (v5 + (1 : Int32))) (lv' := [(5, .int (v5 + (1 : Int32))), (0, .ref (ad 200)), (4, .int u4)]) hx hb dX6_flow_354 hl (k := 2) rfl rfl (by decide) rfl (fun ls hl => ?_)
        refine lv_goto (tgt := 313) hx hb dX6_flow_357 (by decide) ?_
        exact ih _ _ _ _ _ hS (lv_sub hl [1, 2, 0] rfl) h
      · have h := if_t h c79
        refine lv_aload_n hx hb dX6_flow_340 rfl (lv_at hl 0 rfl) ?_
        refine lv_iload hx hb dX6_flow_341 (lv_at hl 2 rfl) ?_
        refine lv_iconst (v := (2 : Int32)) hx hb dX6_flow_343 (by decide) ?_
        refine lv_aload_n hx hb dX6_flow_344 rfl (lv_at hl 0 rfl) ?_
        refine h_getC (n := 39) (j := 239) (sh := (1, 8)) Z hS cls_14 hu0 (by decide) rfl rfl rfl fl_X6_95_14 dX6_flow_345 (fun hc80 => ?_)
        refine lv_iload hx hb dX6_flow_348 (lv_at hl 2 rfl) ?_
        refine h_iald Z hS hc80 dX6_flow_350 h (fun x81 h => ?_)
        refine h_cm hS h (fun z hz => h_rV (rest := []) Z hS hu0 rfl v_X6_338 (w_X6_tell hu0 hz) rfl rfl ⟨by decide, by decide⟩ rfl hl.1 rfl (Nat.le_of_ble_eq_true rfl) (Nat.zero_le _) (Nat.zero_le _) dX6_flow_351) (fun σ82 H locs hS h => ?_)
        refine lv_iinc (v := (v5 + (1 : Int32))) (lv' := [(5, .int (v5 + (1 : Int32))), (0, .ref (ad 200)), (4, .int u4)]) hx hb dX6_flow_354 hl (k := 2) rfl rfl (by decide) rfl (fun ls hl => ?_)
        refine lv_goto (tgt := 313) hx hb dX6_flow_357 (by decide) ?_
        exact ih _ _ _ _ _ hS (lv_sub hl [1, 2, 0] rfl) h
set_option maxRecDepth 100000 in
set_option maxHeartbeats 4000000 in
theorem w_X6_flow_L363 (Z : Cz D (Ew D A) A cX6_flow 6 none RX6 p s m args meth c) {u4 : Int32} (hu0 : S 200 = (24, 0)) {r : Mem} {k392 : Mem → Option Mem}
    (hk392 : ∀ (σ : Mem)  (H : Heap) (locs : List Loc) (ls : Array Slot), St D A ad S σ s.heap H locs → lv_has ls 6 [(0, .ref (ad 200))] → k392 σ = some r → W p l e rm_X6_flow s m args below meth c H locs 0 0 (MQ below (QG D A ad S none r) args s 0 0 A) (F0 m 392 ls [])) :
    ∀ (n : Nat) (σ : Mem) (v5 : Int32) (H : Heap) (locs : List Loc) (ls : Array Slot), St D A ad S σ s.heap H locs → lv_has ls 6 [(0, .ref (ad 200)), (4, .int u4), (5, .int v5)] → f_X6_flow_L363 k392 u4 n σ v5 = some r → W p l e rm_X6_flow s m args below meth c H locs 0 0 (MQ below (QG D A ad S none r) args s 0 0 A) (F0 m 363 ls []) := by
  have hx := Z.1
  have hb := Z.2.1
  have hown := Z.2.2.2.2.2.1
  have hts := Z.2.2.2.2.2.2.1
  intro n
  induction n with
  | zero => intro σ v5 H locs ls hS hl h; cases h
  | succ n ih =>
    intro σ v5 H locs ls hS hl h
    unfold f_X6_flow_L363 at h
    refine lv_iload hx hb dX6_flow_363 (lv_at hl 2 rfl) ?_
    refine lv_iload hx hb dX6_flow_365 (lv_at hl 1 rfl) ?_
    refine lv_icmp_gt (tgt := 392) hx hb dX6_flow_367 (by decide) (fun c84 => ?_) (fun c84 => ?_)
    · have h := if_t h c84
      exact hk392 _ _ _ _ hS (lv_sub hl [0] rfl) h
    · have h := if_f h c84
      refine lv_aload_n hx hb dX6_flow_370 rfl (lv_at hl 0 rfl) ?_
      refine h_getC (n := 20) (j := 220) (sh := (1, 9)) Z hS cls_14 hu0 (by decide) rfl rfl rfl fl_X6_61_14 dX6_flow_371 (fun hc85 => ?_)
      refine lv_iload hx hb dX6_flow_374 (lv_at hl 2 rfl) ?_
      refine h_iald Z hS hc85 dX6_flow_376 h (fun x86 h => ?_)
      refine lv_if_le (tgt := 386) hx hb dX6_flow_377 (by decide) (fun c87 => ?_) (fun c87 => ?_)
      · have h := if_t h c87
        refine lv_iinc (v := (v5 + (1 : Int32))) (lv' := [(5, .int (v5 + (1 : Int32))), (0, .ref (ad 200)), (4, .int u4)]) hx hb dX6_flow_386 hl (k := 2) rfl rfl (by decide) rfl (fun ls hl => ?_)
        refine lv_goto (tgt := 363) hx hb dX6_flow_389 (by decide) ?_
        exact ih _ _ _ _ _ hS (lv_sub hl [1, 2, 0] rfl) h
      · have h := if_f h c87
        refine lv_aload_n hx hb dX6_flow_380 rfl (lv_at hl 0 rfl) ?_
        refine lv_iload hx hb dX6_flow_381 (lv_at hl 2 rfl) ?_
        refine h_cm hS h (fun z hz => h_rV (rest := []) Z hS hu0 rfl v_X6_342 (w_X6_runOne hu0 hz) rfl rfl ⟨by decide, by decide⟩ rfl hl.1 rfl (Nat.le_of_ble_eq_true rfl) (Nat.zero_le _) (Nat.zero_le _) dX6_flow_383) (fun σ88 H locs hS h => ?_)
        refine lv_iinc (v := (v5 + (1 : Int32))) (lv' := [(5, .int (v5 + (1 : Int32))), (0, .ref (ad 200)), (4, .int u4)]) hx hb dX6_flow_386 hl (k := 2) rfl rfl (by decide) rfl (fun ls hl => ?_)
        refine lv_goto (tgt := 363) hx hb dX6_flow_389 (by decide) ?_
        exact ih _ _ _ _ _ hS (lv_sub hl [1, 2, 0] rfl) h
set_option maxRecDepth 100000 in
set_option maxHeartbeats 4000000 in
theorem w_X6_flow_L395 (Z : Cz D (Ew D A) A cX6_flow 6 none RX6 p s m args meth c) (hu0 : S 200 = (24, 0)) {r : Mem} {k456 : Mem → Option Mem}
    (hk456 : ∀ (σ : Mem)  (H : Heap) (locs : List Loc) (ls : Array Slot), St D A ad S σ s.heap H locs → lv_has ls 6 [] → k456 σ = some r → W p l e rm_X6_flow s m args below meth c H locs 0 0 (MQ below (QG D A ad S none r) args s 0 0 A) (F0 m 456 ls [])) :
    ∀ (n : Nat) (σ : Mem) (v5 : Int32) (H : Heap) (locs : List Loc) (ls : Array Slot), St D A ad S σ s.heap H locs → lv_has ls 6 [(0, .ref (ad 200)), (5, .int v5)] → f_X6_flow_L395 k456 n σ v5 = some r → W p l e rm_X6_flow s m args below meth c H locs 0 0 (MQ below (QG D A ad S none r) args s 0 0 A) (F0 m 395 ls []) := by
  have hx := Z.1
  have hb := Z.2.1
  have hown := Z.2.2.2.2.2.1
  have hts := Z.2.2.2.2.2.2.1
  intro n
  induction n with
  | zero => intro σ v5 H locs ls hS hl h; cases h
  | succ n ih =>
    intro σ v5 H locs ls hS hl h
    unfold f_X6_flow_L395 at h
    refine lv_iload hx hb dX6_flow_395 (lv_at hl 1 rfl) ?_
    refine lv_aload_n hx hb dX6_flow_397 rfl (lv_at hl 0 rfl) ?_
    refine h_getI Z hS cls_14 hu0 (by decide) rfl fl_X6_165_14 dX6_flow_398 h (fun x90 h => ?_)
    refine lv_icmp_ge (tgt := 456) hx hb dX6_flow_401 (by decide) (fun c91 => ?_) (fun c91 => ?_)
    · have h := if_t h c91
      exact hk456 _ _ _ _ hS (lv_sub hl [] rfl) h
    · have h := if_f h c91
      refine lv_aload_n hx hb dX6_flow_404 rfl (lv_at hl 0 rfl) ?_
      refine h_getC (n := 21) (j := 221) (sh := (1, 9)) Z hS cls_14 hu0 (by decide) rfl rfl rfl fl_X6_64_14 dX6_flow_405 (fun hc92 => ?_)
      refine lv_iload hx hb dX6_flow_408 (lv_at hl 1 rfl) ?_
      refine lv_iconst (v := (0 : Int32)) hx hb dX6_flow_410 (by decide) ?_
      refine lv_aload_n hx hb dX6_flow_411 rfl (lv_at hl 0 rfl) ?_
      refine h_getC (n := 21) (j := 221) (sh := (1, 9)) Z hS cls_14 hu0 (by decide) rfl rfl rfl fl_X6_64_14 dX6_flow_412 (fun hc93 => ?_)
      refine lv_iload hx hb dX6_flow_415 (lv_at hl 1 rfl) ?_
      refine h_iald Z hS hc93 dX6_flow_417 h (fun x94 h => ?_)
      refine y_imax hx hb (hl.1 ▸ Z.2.2.2.2.1) Z.2.2.2.2.2 q1428 (by decide) (Nat.le_of_ble_eq_true rfl) (Nat.zero_le _) (Nat.zero_le _) dX6_flow_418 ?_
      refine h_iast Z hS hc92 dX6_flow_421 h (fun σ95 H locs hS h => ?_)
      refine lv_aload_n hx hb dX6_flow_422 rfl (lv_at hl 0 rfl) ?_
      refine h_getC (n := 16) (j := 216) (sh := (1, 9)) Z hS cls_14 hu0 (by decide) rfl rfl rfl fl_X6_49_14 dX6_flow_423 (fun hc96 => ?_)
      refine lv_iload hx hb dX6_flow_426 (lv_at hl 1 rfl) ?_
      refine lv_aload_n hx hb dX6_flow_428 rfl (lv_at hl 0 rfl) ?_
      refine h_getC (n := 48) (j := 248) (sh := (3, 8)) Z hS cls_14 hu0 (by decide) rfl rfl rfl fl_X6_123_14 dX6_flow_429 (fun hc97 => ?_)
      refine lv_iload hx hb dX6_flow_432 (lv_at hl 1 rfl) ?_
      refine h_zald Z hS hc97 dX6_flow_434 h (fun x98 h => ?_)
      refine lv_if_eq (tgt := 442) hx hb dX6_flow_435 (by decide) (fun c99 => ?_) (fun c99 => ?_)
      · have h := if_t h c99
        refine lv_aload_n hx hb dX6_flow_442 rfl (lv_at hl 0 rfl) ?_
        refine h_getC (n := 16) (j := 216) (sh := (1, 9)) Z hS cls_14 hu0 (by decide) rfl rfl rfl fl_X6_49_14 dX6_flow_443 (fun hc100 => ?_)
        refine lv_iload hx hb dX6_flow_446 (lv_at hl 1 rfl) ?_
        refine h_iald Z hS hc100 dX6_flow_448 h (fun x101 h => ?_)
        refine h_iast Z hS hc96 dX6_flow_449 h (fun σ102 H locs hS h => ?_)
        refine lv_iinc (v := (v5 + (1 : Int32))) (lv' := [(5, .int (v5 + (1 : Int32))), (0, .ref (ad 200))]) hx hb dX6_flow_450 hl (k := 1) rfl rfl (by decide) rfl (fun ls hl => ?_)
        refine lv_goto (tgt := 395) hx hb dX6_flow_453 (by decide) ?_
        exact ih _ _ _ _ _ hS (lv_sub hl [1, 0] rfl) h
      · have h := if_f h c99
        refine lv_iconst (v := (4 : Int32)) hx hb dX6_flow_438 (by decide) ?_
        refine lv_goto (tgt := 449) hx hb dX6_flow_439 (by decide) ?_
        refine h_iast Z hS hc96 dX6_flow_449 h (fun σ103 H locs hS h => ?_)
        refine lv_iinc (v := (v5 + (1 : Int32))) (lv' := [(5, .int (v5 + (1 : Int32))), (0, .ref (ad 200))]) hx hb dX6_flow_450 hl (k := 1) rfl rfl (by decide) rfl (fun ls hl => ?_)
        refine lv_goto (tgt := 395) hx hb dX6_flow_453 (by decide) ?_
        exact ih _ _ _ _ _ hS (lv_sub hl [1, 0] rfl) h
set_option maxRecDepth 100000 in
set_option maxHeartbeats 4000000 in
theorem w_X6_flow (hi0 : S 200 = (24, 0)) {r : Mem} (h : f_X6_flow σ = some r) : Met l yX6_flow (ws_ yX6_flow cX6_flow 6 none) rm_X6_flow (va_Pc [.ref (ad 200)] (PreG D (Ew D A) A ad S σ)) (QG D A ad S none r) 0 0 A := by
  refine y_met (by decide) (Nat.le_of_ble_eq_true rfl) (fun p e s m below meth c ls Z hS hl => ?_)
  have hx := Z.1
  have hb := Z.2.1
  have hown := Z.2.2.2.2.2.1
  have hts := Z.2.2.2.2.2.2.1
  unfold f_X6_flow at h
  refine lv_lconst (v := (0 : Int64)) hx hb dX6_flow_0 (by decide) ?_
  refine lv_lstore_n (lv' := [(1, .long (0 : Int64)), (0, .ref (ad 200))]) hx hb dX6_flow_1 rfl hl (by decide) rfl (fun ls hl => ?_)
  refine lv_iconst (v := (0 : Int32)) hx hb dX6_flow_2 (by decide) ?_
  refine lv_istore_n (lv' := [(3, .int (0 : Int32)), (1, .long (0 : Int64)), (0, .ref (ad 200))]) hx hb dX6_flow_3 rfl hl (by decide) rfl (fun ls hl => ?_)
  refine w_X6_flow_L4 Z hi0 (fun σ23 y24 H locs ls hS hl h => ?_) FU _ _ _ _ _ _ hS (lv_sub hl [2, 1, 0] rfl) h
  refine lv_aload_n hx hb dX6_flow_81 rfl (lv_at hl 0 rfl) ?_
  refine h_getI Z hS cls_14 hi0 (by decide) rfl fl_X6_319_14 dX6_flow_82 h (fun x25 h => ?_)
  refine lv_istore_n (lv' := [(3, .int x25), (0, .ref (ad 200)), (1, .long y24)]) hx hb dX6_flow_85 rfl hl (by decide) rfl (fun ls hl => ?_)
  refine lv_iconst (v := (0 : Int32)) hx hb dX6_flow_86 (by decide) ?_
  refine lv_istore (lv' := [(4, .int (0 : Int32)), (3, .int x25), (0, .ref (ad 200)), (1, .long y24)]) hx hb dX6_flow_87 hl (by decide) rfl (fun ls hl => ?_)
  refine w_X6_flow_L89 Z hi0 (fun σ39 x40 H locs ls hS hl h => ?_) FU _ _ _ _ _ _ hS (lv_sub hl [2, 3, 1, 0] rfl) h
  refine lv_iconst (v := (0 : Int32)) hx hb dX6_flow_148 (by decide) ?_
  refine lv_istore (lv' := [(4, .int (0 : Int32)), (0, .ref (ad 200)), (1, .long y24), (3, .int x40)]) hx hb dX6_flow_149 hl (by decide) rfl (fun ls hl => ?_)
  refine w_X6_flow_L151 Z hi0 (fun σ51 H locs ls hS hl h => ?_) FU _ _ _ _ _ _ hS (lv_sub hl [1, 2, 3, 0] rfl) h
  refine lv_iconst (v := (0 : Int32)) hx hb dX6_flow_200 (by decide) ?_
  refine lv_istore (lv' := [(4, .int (0 : Int32)), (0, .ref (ad 200))]) hx hb dX6_flow_201 hl (by decide) rfl (fun ls hl => ?_)
  refine w_X6_flow_L203 Z hi0 (fun σ63 H locs ls hS hl h => ?_) FU _ _ _ _ _ hS (lv_sub hl [1, 0] rfl) h
  refine lv_iconst (v := (-1 : Int32)) hx hb dX6_flow_254 (by decide) ?_
  refine lv_istore (lv' := [(4, .int (-1 : Int32)), (0, .ref (ad 200))]) hx hb dX6_flow_255 hl (by decide) rfl (fun ls hl => ?_)
  refine lv_iconst (v := (0 : Int32)) hx hb dX6_flow_257 (by decide) ?_
  refine lv_istore (lv' := [(5, .int (0 : Int32)), (4, .int (-1 : Int32)), (0, .ref (ad 200))]) hx hb dX6_flow_258 hl (by decide) rfl (fun ls hl => ?_)
  refine w_X6_flow_L260 Z hi0 (fun σ73 x74 H locs ls hS hl h => ?_) FU _ _ _ _ _ _ hS (lv_sub hl [2, 1, 0] rfl) h
  refine lv_iconst (v := (0 : Int32)) hx hb dX6_flow_310 (by decide) ?_
  refine lv_istore (lv' := [(5, .int (0 : Int32)), (0, .ref (ad 200)), (4, .int x74)]) hx hb dX6_flow_311 hl (by decide) rfl (fun ls hl => ?_)
  refine w_X6_flow_L313 Z hi0 (fun σ83 H locs ls hS hl h => ?_) FU _ _ _ _ _ hS (lv_sub hl [1, 2, 0] rfl) h
  refine lv_iconst (v := (0 : Int32)) hx hb dX6_flow_360 (by decide) ?_
  refine lv_istore (lv' := [(5, .int (0 : Int32)), (0, .ref (ad 200)), (4, .int x74)]) hx hb dX6_flow_361 hl (by decide) rfl (fun ls hl => ?_)
  refine w_X6_flow_L363 Z hi0 (fun σ89 H locs ls hS hl h => ?_) FU _ _ _ _ _ hS (lv_sub hl [1, 2, 0] rfl) h
  refine lv_iconst (v := (0 : Int32)) hx hb dX6_flow_392 (by decide) ?_
  refine lv_istore (lv' := [(5, .int (0 : Int32)), (0, .ref (ad 200))]) hx hb dX6_flow_393 hl (by decide) rfl (fun ls hl => ?_)
  refine w_X6_flow_L395 Z hi0 (fun σ104 H locs ls hS hl h => ?_) FU _ _ _ _ _ hS (lv_sub hl [1, 0] rfl) h
  exact h_vret Z hS dX6_flow_456 h
end
