set_option maxRecDepth 100000
theorem dX7_wash_0 : decode cX7_wash 0 = .ok (.iconst 0, 1) := by decide +kernel
theorem dX7_wash_1 : decode cX7_wash 1 = .ok (.istore 4, 2) := by decide +kernel
theorem dX7_wash_3 : decode cX7_wash 3 = .ok (.iload 4, 2) := by decide +kernel
theorem dX7_wash_5 : decode cX7_wash 5 = .ok (.bipush 8, 2) := by decide +kernel
theorem dX7_wash_7 : decode cX7_wash 7 = .ok (.if_icmp .ge 100, 3) := by decide +kernel
theorem dX7_wash_10 : decode cX7_wash 10 = .ok (.aload_n 0, 1) := by decide +kernel
theorem dX7_wash_11 : decode cX7_wash 11 = .ok (.getfield 49, 3) := by decide +kernel
theorem dX7_wash_14 : decode cX7_wash 14 = .ok (.iload 4, 2) := by decide +kernel
theorem dX7_wash_16 : decode cX7_wash 16 = .ok (.iaload, 1) := by decide +kernel
theorem dX7_wash_17 : decode cX7_wash 17 = .ok (.aload_n 0, 1) := by decide +kernel
theorem dX7_wash_18 : decode cX7_wash 18 = .ok (.getfield 9, 3) := by decide +kernel
theorem dX7_wash_21 : decode cX7_wash 21 = .ok (.iload 4, 2) := by decide +kernel
theorem dX7_wash_23 : decode cX7_wash 23 = .ok (.iaload, 1) := by decide +kernel
theorem dX7_wash_24 : decode cX7_wash 24 = .ok (.isub, 1) := by decide +kernel
theorem dX7_wash_25 : decode cX7_wash 25 = .ok (.istore 5, 2) := by decide +kernel
theorem dX7_wash_27 : decode cX7_wash 27 = .ok (.iload 5, 2) := by decide +kernel
theorem dX7_wash_29 : decode cX7_wash 29 = .ok (.aload_n 1, 1) := by decide +kernel
theorem dX7_wash_30 : decode cX7_wash 30 = .ok (.getfield 52, 3) := by decide +kernel
theorem dX7_wash_33 : decode cX7_wash 33 = .ok (.iload 4, 2) := by decide +kernel
theorem dX7_wash_35 : decode cX7_wash 35 = .ok (.iaload, 1) := by decide +kernel
theorem dX7_wash_36 : decode cX7_wash 36 = .ok (.imul, 1) := by decide +kernel
theorem dX7_wash_37 : decode cX7_wash 37 = .ok (.sipush 1000, 3) := by decide +kernel
theorem dX7_wash_40 : decode cX7_wash 40 = .ok (.idiv, 1) := by decide +kernel
theorem dX7_wash_41 : decode cX7_wash 41 = .ok (.istore 6, 2) := by decide +kernel
theorem dX7_wash_43 : decode cX7_wash 43 = .ok (.aload_n 0, 1) := by decide +kernel
theorem dX7_wash_44 : decode cX7_wash 44 = .ok (.getfield 9, 3) := by decide +kernel
theorem dX7_wash_47 : decode cX7_wash 47 = .ok (.iload 4, 2) := by decide +kernel
theorem dX7_wash_49 : decode cX7_wash 49 = .ok (.dup2, 1) := by decide +kernel
theorem dX7_wash_50 : decode cX7_wash 50 = .ok (.iaload, 1) := by decide +kernel
theorem dX7_wash_51 : decode cX7_wash 51 = .ok (.iload 6, 2) := by decide +kernel
theorem dX7_wash_53 : decode cX7_wash 53 = .ok (.iadd, 1) := by decide +kernel
theorem dX7_wash_54 : decode cX7_wash 54 = .ok (.iastore, 1) := by decide +kernel
theorem dX7_wash_55 : decode cX7_wash 55 = .ok (.iload 5, 2) := by decide +kernel
theorem dX7_wash_57 : decode cX7_wash 57 = .ok (.iload 6, 2) := by decide +kernel
theorem dX7_wash_59 : decode cX7_wash 59 = .ok (.isub, 1) := by decide +kernel
theorem dX7_wash_60 : decode cX7_wash 60 = .ok (.aload_n 1, 1) := by decide +kernel
theorem dX7_wash_61 : decode cX7_wash 61 = .ok (.getfield 57, 3) := by decide +kernel
theorem dX7_wash_64 : decode cX7_wash 64 = .ok (.iload 4, 2) := by decide +kernel
theorem dX7_wash_66 : decode cX7_wash 66 = .ok (.iaload, 1) := by decide +kernel
theorem dX7_wash_67 : decode cX7_wash 67 = .ok (.imul, 1) := by decide +kernel
theorem dX7_wash_68 : decode cX7_wash 68 = .ok (.sipush 1000, 3) := by decide +kernel
theorem dX7_wash_71 : decode cX7_wash 71 = .ok (.idiv, 1) := by decide +kernel
theorem dX7_wash_72 : decode cX7_wash 72 = .ok (.iload_n 2, 1) := by decide +kernel
theorem dX7_wash_73 : decode cX7_wash 73 = .ok (.imul, 1) := by decide +kernel
theorem dX7_wash_74 : decode cX7_wash 74 = .ok (.sipush 1000, 3) := by decide +kernel
theorem dX7_wash_77 : decode cX7_wash 77 = .ok (.idiv, 1) := by decide +kernel
theorem dX7_wash_78 : decode cX7_wash 78 = .ok (.istore 7, 2) := by decide +kernel
theorem dX7_wash_80 : decode cX7_wash 80 = .ok (.aload_n 0, 1) := by decide +kernel
theorem dX7_wash_81 : decode cX7_wash 81 = .ok (.getfield 49, 3) := by decide +kernel
theorem dX7_wash_84 : decode cX7_wash 84 = .ok (.iload 4, 2) := by decide +kernel
theorem dX7_wash_86 : decode cX7_wash 86 = .ok (.dup2, 1) := by decide +kernel
theorem dX7_wash_87 : decode cX7_wash 87 = .ok (.iaload, 1) := by decide +kernel
theorem dX7_wash_88 : decode cX7_wash 88 = .ok (.iload 7, 2) := by decide +kernel
theorem dX7_wash_90 : decode cX7_wash 90 = .ok (.isub, 1) := by decide +kernel
theorem dX7_wash_91 : decode cX7_wash 91 = .ok (.iastore, 1) := by decide +kernel
theorem dX7_wash_92 : decode cX7_wash 92 = .ok (.aload_n 3, 1) := by decide +kernel
theorem dX7_wash_93 : decode cX7_wash 93 = .ok (.iload 4, 2) := by decide +kernel
theorem dX7_wash_95 : decode cX7_wash 95 = .ok (.dup2, 1) := by decide +kernel
theorem dX7_wash_96 : decode cX7_wash 96 = .ok (.iaload, 1) := by decide +kernel
theorem dX7_wash_97 : decode cX7_wash 97 = .ok (.iload 7, 2) := by decide +kernel
theorem dX7_wash_99 : decode cX7_wash 99 = .ok (.iadd, 1) := by decide +kernel
theorem dX7_wash_100 : decode cX7_wash 100 = .ok (.iastore, 1) := by decide +kernel
theorem dX7_wash_101 : decode cX7_wash 101 = .ok (.iinc 4 1, 3) := by decide +kernel
theorem dX7_wash_104 : decode cX7_wash 104 = .ok (.goto (-101), 3) := by decide +kernel
theorem dX7_wash_107 : decode cX7_wash 107 = .ok (.return_, 1) := by decide +kernel
abbrev rm_X7_wash : Room := k2_rm 0 0
section
variable {p : Program} {l : Launch} {e : Env} {s : State} {m : MethodId} {args : Array Value} {below : List Frame} {meth : Method} {c : Code} {D : gD} {A : Nat → Prop} {ad : Nat → Nat} {S : Nat → Nat × Nat} {σ : Mem}
set_option maxRecDepth 100000 in
set_option maxHeartbeats 4000000 in
theorem w_X7_wash_L3 (Z : Cz D (Ew D A) A cX7_wash 8 none RX7 p s m args meth c) {u0 : Nat} {u1 : Nat} {u2 : Int32} {u3 : Nat} (hu0 : S u0 = (14, 0)) (hu1 : S u1 = (11, 0)) (hu3 : S u3 = (1, 8)) {r : Mem} {k107 : Mem → Option Mem}
    (hk107 : ∀ (σ : Mem)  (H : Heap) (locs : List Loc) (ls : Array Slot), St D A ad S σ s.heap H locs → lv_has ls 8 [] → k107 σ = some r → W p l e rm_X7_wash s m args below meth c H locs 0 0 (MQ below (QG D A ad S none r) args s 0 0 A) (F0 m 107 ls [])) :
    ∀ (n : Nat) (σ : Mem) (v4 : Int32) (H : Heap) (locs : List Loc) (ls : Array Slot), St D A ad S σ s.heap H locs → lv_has ls 8 [(0, .ref (ad u0)), (1, .ref (ad u1)), (2, .int u2), (3, .ref (ad u3)), (4, .int v4)] → f_X7_wash_L3 k107 u0 u1 u2 u3 n σ v4 = some r → W p l e rm_X7_wash s m args below meth c H locs 0 0 (MQ below (QG D A ad S none r) args s 0 0 A) (F0 m 3 ls []) := by
  have hx := Z.1
  have hb := Z.2.1
  have hown := Z.2.2.2.2.2.1
  have hts := Z.2.2.2.2.2.2.1
  intro n
  induction n with
  | zero => intro σ v4 H locs ls hS hl h; cases h
  | succ n ih =>
    intro σ v4 H locs ls hS hl h
    unfold f_X7_wash_L3 at h
    refine lv_iload hx hb dX7_wash_3 (lv_at hl 4 rfl) ?_
    refine lv_bipush (v := (8 : Int32)) hx hb dX7_wash_5 (by decide) ?_
    refine lv_icmp_ge (tgt := 107) hx hb dX7_wash_7 (by decide) (fun c1 => ?_) (fun c1 => ?_)
    · have h := if_t h c1
      exact hk107 _ _ _ _ hS (lv_sub hl [] rfl) h
    · have h := if_f h c1
      refine lv_aload_n hx hb dX7_wash_10 rfl (lv_at hl 0 rfl) ?_
      refine h_getC (n := 1) (j := (u0 + 1)) (sh := (1, 8)) Z hS cls_4 hu0 (by decide) rfl rfl rfl fl_X7_49_4 dX7_wash_11 (fun hc2 => ?_)
      refine lv_iload hx hb dX7_wash_14 (lv_at hl 4 rfl) ?_
      refine h_iald Z hS hc2 dX7_wash_16 h (fun x3 h => ?_)
      refine lv_aload_n hx hb dX7_wash_17 rfl (lv_at hl 0 rfl) ?_
      refine h_getC (n := 2) (j := (u0 + 2)) (sh := (1, 8)) Z hS cls_4 hu0 (by decide) rfl rfl rfl fl_X7_9_4 dX7_wash_18 (fun hc4 => ?_)
      refine lv_iload hx hb dX7_wash_21 (lv_at hl 4 rfl) ?_
      refine h_iald Z hS hc4 dX7_wash_23 h (fun x5 h => ?_)
      refine lv_isub hx hb dX7_wash_24 ?_
      refine h_leti h (fun x6 h => ?_)
      refine lv_istore (lv' := [(5, .int x6), (0, .ref (ad u0)), (1, .ref (ad u1)), (2, .int u2), (3, .ref (ad u3)), (4, .int v4)]) hx hb dX7_wash_25 hl (by decide) rfl (fun ls hl => ?_)
      refine lv_iload hx hb dX7_wash_27 (lv_at hl 0 rfl) ?_
      refine lv_aload_n hx hb dX7_wash_29 rfl (lv_at hl 2 rfl) ?_
      refine h_getC (n := 3) (j := (u1 + 3)) (sh := (1, 8)) Z hS cls_1 hu1 (by decide) rfl rfl rfl fl_X7_52_1 dX7_wash_30 (fun hc7 => ?_)
      refine lv_iload hx hb dX7_wash_33 (lv_at hl 5 rfl) ?_
      refine h_iald Z hS hc7 dX7_wash_35 h (fun x8 h => ?_)
      refine lv_imul hx hb dX7_wash_36 ?_
      refine lv_sipush (v := (1000 : Int32)) hx hb dX7_wash_37 (by decide) ?_
      refine h_idiv Z dX7_wash_40 h (fun h => ?_)
      refine h_leti h (fun x9 h => ?_)
      refine lv_istore (lv' := [(6, .int x9), (5, .int x6), (0, .ref (ad u0)), (1, .ref (ad u1)), (2, .int u2), (3, .ref (ad u3)), (4, .int v4)]) hx hb dX7_wash_41 hl (by decide) rfl (fun ls hl => ?_)
      refine lv_aload_n hx hb dX7_wash_43 rfl (lv_at hl 2 rfl) ?_
      refine h_getC (n := 2) (j := (u0 + 2)) (sh := (1, 8)) Z hS cls_4 hu0 (by decide) rfl rfl rfl fl_X7_9_4 dX7_wash_44 (fun hc10 => ?_)
      refine lv_iload hx hb dX7_wash_47 (lv_at hl 6 rfl) ?_
      refine lv_dup2_11 hx hb dX7_wash_49 rfl rfl ?_
      refine h_iald Z hS hc10 dX7_wash_50 h (fun x11 h => ?_)
      refine lv_iload hx hb dX7_wash_51 (lv_at hl 0 rfl) ?_
      refine lv_iadd hx hb dX7_wash_53 ?_
      refine h_iast Z hS hc10 dX7_wash_54 h (fun σ12 H locs hS h => ?_)
      refine lv_iload hx hb dX7_wash_55 (lv_at hl 1 rfl) ?_
      refine lv_iload hx hb dX7_wash_57 (lv_at hl 0 rfl) ?_
      refine lv_isub hx hb dX7_wash_59 ?_
      refine lv_aload_n hx hb dX7_wash_60 rfl (lv_at hl 3 rfl) ?_
      refine h_getC (n := 2) (j := (u1 + 2)) (sh := (1, 8)) Z hS cls_1 hu1 (by decide) rfl rfl rfl fl_X7_57_1 dX7_wash_61 (fun hc13 => ?_)
      refine lv_iload hx hb dX7_wash_64 (lv_at hl 6 rfl) ?_
      refine h_iald Z hS hc13 dX7_wash_66 h (fun x14 h => ?_)
      refine lv_imul hx hb dX7_wash_67 ?_
      refine lv_sipush (v := (1000 : Int32)) hx hb dX7_wash_68 (by decide) ?_
      refine h_idiv Z dX7_wash_71 h (fun h => ?_)
      refine lv_iload_n hx hb dX7_wash_72 rfl (lv_at hl 4 rfl) ?_
      refine lv_imul hx hb dX7_wash_73 ?_
      refine lv_sipush (v := (1000 : Int32)) hx hb dX7_wash_74 (by decide) ?_
      refine h_idiv Z dX7_wash_77 h (fun h => ?_)
      refine h_leti h (fun x15 h => ?_)
      refine lv_istore (lv' := [(7, .int x15), (6, .int x9), (5, .int x6), (0, .ref (ad u0)), (1, .ref (ad u1)), (2, .int u2), (3, .ref (ad u3)), (4, .int v4)]) hx hb dX7_wash_78 hl (by decide) rfl (fun ls hl => ?_)
      refine lv_aload_n hx hb dX7_wash_80 rfl (lv_at hl 3 rfl) ?_
      refine h_getC (n := 1) (j := (u0 + 1)) (sh := (1, 8)) Z hS cls_4 hu0 (by decide) rfl rfl rfl fl_X7_49_4 dX7_wash_81 (fun hc16 => ?_)
      refine lv_iload hx hb dX7_wash_84 (lv_at hl 7 rfl) ?_
      refine lv_dup2_11 hx hb dX7_wash_86 rfl rfl ?_
      refine h_iald Z hS hc16 dX7_wash_87 h (fun x17 h => ?_)
      refine lv_iload hx hb dX7_wash_88 (lv_at hl 0 rfl) ?_
      refine lv_isub hx hb dX7_wash_90 ?_
      refine h_iast Z hS hc16 dX7_wash_91 h (fun σ18 H locs hS h => ?_)
      refine lv_aload_n hx hb dX7_wash_92 rfl (lv_at hl 6 rfl) ?_
      refine lv_iload hx hb dX7_wash_93 (lv_at hl 7 rfl) ?_
      refine lv_dup2_11 hx hb dX7_wash_95 rfl rfl ?_
      refine h_iald Z hS hu3 dX7_wash_96 h (fun x19 h => ?_)
      refine lv_iload hx hb dX7_wash_97 (lv_at hl 0 rfl) ?_
      refine lv_iadd hx hb dX7_wash_99 ?_
      refine h_iast Z hS hu3 dX7_wash_100 h (fun σ20 H locs hS h => ?_)
      refine lv_iinc (v := (v4 + (1 : Int32))) (lv' := [(4, .int (v4 + (1 : Int32))), (7, .int x15), (6, .int x9), (5, .int x6), (0, .ref (ad u0)), (1, .ref (ad u1)), (2, .int u2), (3, .ref (ad u3))]) hx hb dX7_wash_101 hl (k := 7) rfl rfl (by decide) rfl (fun ls hl => ?_)
      refine lv_goto (tgt := 3) hx hb dX7_wash_104 (by decide) ?_
      exact ih _ _ _ _ _ hS (lv_sub hl [4, 5, 6, 7, 0] rfl) h
set_option maxRecDepth 100000 in
set_option maxHeartbeats 4000000 in
theorem w_X7_wash {i0 : Nat} {a1 : Nat} {a2 : Int32} {a3 : Nat} (hi0 : S i0 = (14, 0)) (ha1 : S a1 = (11, 0)) (ha3 : S a3 = (1, 8)) {r : Mem} (h : f_X7_wash σ i0 a1 a2 a3 = some r) : Met l yX7_wash (ws_ yX7_wash cX7_wash 8 none) rm_X7_wash (va_Pc [.ref (ad i0), .ref (ad a1), .int a2, .ref (ad a3)] (PreG D (Ew D A) A ad S σ)) (QG D A ad S none r) 0 0 A := by
  refine y_met (by decide) (Nat.le_of_ble_eq_true rfl) (fun p e s m below meth c ls Z hS hl => ?_)
  have hx := Z.1
  have hb := Z.2.1
  have hown := Z.2.2.2.2.2.1
  have hts := Z.2.2.2.2.2.2.1
  unfold f_X7_wash at h
  refine lv_iconst (v := (0 : Int32)) hx hb dX7_wash_0 (by decide) ?_
  refine lv_istore (lv' := [(4, .int (0 : Int32)), (0, .ref (ad i0)), (1, .ref (ad a1)), (2, .int a2), (3, .ref (ad a3))]) hx hb dX7_wash_1 hl (by decide) rfl (fun ls hl => ?_)
  refine w_X7_wash_L3 Z hi0 ha1 ha3 (fun σ21 H locs ls hS hl h => ?_) FU _ _ _ _ _ hS (lv_sub hl [1, 2, 3, 4, 0] rfl) h
  exact h_vret Z hS dX7_wash_107 h
end
theorem dX3_wash_0 : decode cX3_wash 0 = .ok (.iconst 0, 1) := by decide +kernel
theorem dX3_wash_1 : decode cX3_wash 1 = .ok (.istore 4, 2) := by decide +kernel
theorem dX3_wash_3 : decode cX3_wash 3 = .ok (.iload 4, 2) := by decide +kernel
theorem dX3_wash_5 : decode cX3_wash 5 = .ok (.aload_n 0, 1) := by decide +kernel
theorem dX3_wash_6 : decode cX3_wash 6 = .ok (.getfield 38, 3) := by decide +kernel
theorem dX3_wash_9 : decode cX3_wash 9 = .ok (.if_icmp .ge 59, 3) := by decide +kernel
theorem dX3_wash_12 : decode cX3_wash 12 = .ok (.aload_n 0, 1) := by decide +kernel
theorem dX3_wash_13 : decode cX3_wash 13 = .ok (.getfield 11, 3) := by decide +kernel
theorem dX3_wash_16 : decode cX3_wash 16 = .ok (.iload 4, 2) := by decide +kernel
theorem dX3_wash_18 : decode cX3_wash 18 = .ok (.aaload, 1) := by decide +kernel
theorem dX3_wash_19 : decode cX3_wash 19 = .ok (.aload_n 1, 1) := by decide +kernel
theorem dX3_wash_20 : decode cX3_wash 20 = .ok (.iload_n 2, 1) := by decide +kernel
theorem dX3_wash_21 : decode cX3_wash 21 = .ok (.aload_n 3, 1) := by decide +kernel
theorem dX3_wash_22 : decode cX3_wash 22 = .ok (.invokevirtual 80, 3) := by decide +kernel
theorem dX3_wash_25 : decode cX3_wash 25 = .ok (.iload_n 2, 1) := by decide +kernel
theorem dX3_wash_26 : decode cX3_wash 26 = .ok (.aload_n 0, 1) := by decide +kernel
theorem dX3_wash_27 : decode cX3_wash 27 = .ok (.getfield 24, 3) := by decide +kernel
theorem dX3_wash_30 : decode cX3_wash 30 = .ok (.iconst 1, 1) := by decide +kernel
theorem dX3_wash_31 : decode cX3_wash 31 = .ok (.iaload, 1) := by decide +kernel
theorem dX3_wash_32 : decode cX3_wash 32 = .ok (.if_icmp .le 30, 3) := by decide +kernel
theorem dX3_wash_35 : decode cX3_wash 35 = .ok (.aload_n 0, 1) := by decide +kernel
theorem dX3_wash_36 : decode cX3_wash 36 = .ok (.getfield 11, 3) := by decide +kernel
theorem dX3_wash_39 : decode cX3_wash 39 = .ok (.iload 4, 2) := by decide +kernel
theorem dX3_wash_41 : decode cX3_wash 41 = .ok (.aaload, 1) := by decide +kernel
theorem dX3_wash_42 : decode cX3_wash 42 = .ok (.bipush 20, 2) := by decide +kernel
theorem dX3_wash_44 : decode cX3_wash 44 = .ok (.aload_n 0, 1) := by decide +kernel
theorem dX3_wash_45 : decode cX3_wash 45 = .ok (.getfield 11, 3) := by decide +kernel
theorem dX3_wash_48 : decode cX3_wash 48 = .ok (.iload 4, 2) := by decide +kernel
theorem dX3_wash_50 : decode cX3_wash 50 = .ok (.aaload, 1) := by decide +kernel
theorem dX3_wash_51 : decode cX3_wash 51 = .ok (.getfield 84, 3) := by decide +kernel
theorem dX3_wash_54 : decode cX3_wash 54 = .ok (.iconst 1, 1) := by decide +kernel
theorem dX3_wash_55 : decode cX3_wash 55 = .ok (.iadd, 1) := by decide +kernel
theorem dX3_wash_56 : decode cX3_wash 56 = .ok (.invokestatic 87, 3) := by decide +kernel
theorem dX3_wash_59 : decode cX3_wash 59 = .ok (.putfield 84, 3) := by decide +kernel
theorem dX3_wash_62 : decode cX3_wash 62 = .ok (.iinc 4 1, 3) := by decide +kernel
theorem dX3_wash_65 : decode cX3_wash 65 = .ok (.goto (-62), 3) := by decide +kernel
theorem dX3_wash_68 : decode cX3_wash 68 = .ok (.aload_n 0, 1) := by decide +kernel
theorem dX3_wash_69 : decode cX3_wash 69 = .ok (.getfield 20, 3) := by decide +kernel
theorem dX3_wash_72 : decode cX3_wash 72 = .ok (.aload_n 3, 1) := by decide +kernel
theorem dX3_wash_73 : decode cX3_wash 73 = .ok (.invokevirtual 69, 3) := by decide +kernel
theorem dX3_wash_76 : decode cX3_wash 76 = .ok (.aload_n 0, 1) := by decide +kernel
theorem dX3_wash_77 : decode cX3_wash 77 = .ok (.dup, 1) := by decide +kernel
theorem dX3_wash_78 : decode cX3_wash 78 = .ok (.getfield 74, 3) := by decide +kernel
theorem dX3_wash_81 : decode cX3_wash 81 = .ok (.iconst 1, 1) := by decide +kernel
theorem dX3_wash_82 : decode cX3_wash 82 = .ok (.iadd, 1) := by decide +kernel
theorem dX3_wash_83 : decode cX3_wash 83 = .ok (.putfield 74, 3) := by decide +kernel
theorem dX3_wash_86 : decode cX3_wash 86 = .ok (.aload_n 0, 1) := by decide +kernel
theorem dX3_wash_87 : decode cX3_wash 87 = .ok (.iconst 0, 1) := by decide +kernel
theorem dX3_wash_88 : decode cX3_wash 88 = .ok (.putfield 77, 3) := by decide +kernel
theorem dX3_wash_91 : decode cX3_wash 91 = .ok (.return_, 1) := by decide +kernel
abbrev rm_X3_wash : Room := k2_rm 1 27
section
variable {p : Program} {l : Launch} {e : Env} {s : State} {m : MethodId} {args : Array Value} {below : List Frame} {meth : Method} {c : Code} {D : gD} {A : Nat → Prop} {ad : Nat → Nat} {S : Nat → Nat × Nat} {σ : Mem}
set_option maxRecDepth 100000 in
set_option maxHeartbeats 4000000 in
theorem w_X3_wash_L3 (Z : Cz D (Ew D A) A cX3_wash 5 none RX3 p s m args meth c) {u0 : Nat} {u1 : Nat} {u2 : Int32} {u3 : Nat} (hu0 : S u0 = (12, 0)) (hu1 : S u1 = (11, 0)) (hu3 : S u3 = (1, 8)) {r : Mem} {k68 : Mem → Option Mem}
    (hk68 : ∀ (σ : Mem)  (H : Heap) (locs : List Loc) (ls : Array Slot), St D A ad S σ s.heap H locs → lv_has ls 5 [(0, .ref (ad u0)), (3, .ref (ad u3))] → k68 σ = some r → W p l e rm_X3_wash s m args below meth c H locs 0 0 (MQ below (QG D A ad S none r) args s 0 0 A) (F0 m 68 ls [])) :
    ∀ (n : Nat) (σ : Mem) (v4 : Int32) (H : Heap) (locs : List Loc) (ls : Array Slot), St D A ad S σ s.heap H locs → lv_has ls 5 [(0, .ref (ad u0)), (1, .ref (ad u1)), (2, .int u2), (3, .ref (ad u3)), (4, .int v4)] → f_X3_wash_L3 k68 u0 u1 u2 u3 n σ v4 = some r → W p l e rm_X3_wash s m args below meth c H locs 0 0 (MQ below (QG D A ad S none r) args s 0 0 A) (F0 m 3 ls []) := by
  have hx := Z.1
  have hb := Z.2.1
  have hown := Z.2.2.2.2.2.1
  have hts := Z.2.2.2.2.2.2.1
  intro n
  induction n with
  | zero => intro σ v4 H locs ls hS hl h; cases h
  | succ n ih =>
    intro σ v4 H locs ls hS hl h
    unfold f_X3_wash_L3 at h
    refine lv_iload hx hb dX3_wash_3 (lv_at hl 4 rfl) ?_
    refine lv_aload_n hx hb dX3_wash_5 rfl (lv_at hl 0 rfl) ?_
    refine h_getI Z hS cls_2 hu0 (by decide) rfl fl_X3_38_2 dX3_wash_6 h (fun x1 h => ?_)
    refine lv_icmp_ge (tgt := 68) hx hb dX3_wash_9 (by decide) (fun c2 => ?_) (fun c2 => ?_)
    · have h := if_t h c2
      exact hk68 _ _ _ _ hS (lv_sub hl [0, 3] rfl) h
    · have h := if_f h c2
      refine lv_aload_n hx hb dX3_wash_12 rfl (lv_at hl 0 rfl) ?_
      refine h_getC (n := 1) (j := (u0 + 1)) (sh := (6, 10)) Z hS cls_2 hu0 (by decide) rfl rfl rfl fl_X3_11_2 dX3_wash_13 (fun hc3 => ?_)
      refine lv_iload hx hb dX3_wash_16 (lv_at hl 4 rfl) ?_
      refine h_aldN (sh := (14, 0)) Z hS hc3 (by decide) (by decide) rfl dX3_wash_18 h (fun j4 hj4 h => ?_)
      refine lv_aload_n hx hb dX3_wash_19 rfl (lv_at hl 1 rfl) ?_
      refine lv_iload_n hx hb dX3_wash_20 rfl (lv_at hl 2 rfl) ?_
      refine lv_aload_n hx hb dX3_wash_21 rfl (lv_at hl 3 rfl) ?_
      refine h_cm hS h (fun z hz => h_rV (rest := []) Z hS hj4 rfl v_X3_80 (w_X7_wash hj4 hu1 hu3 hz) rfl rfl ⟨by decide, by decide⟩ rfl hl.1 rfl (Nat.le_of_ble_eq_true rfl) (Nat.zero_le _) (Nat.zero_le _) dX3_wash_22) (fun σ5 H locs hS h => ?_)
      refine lv_iload_n hx hb dX3_wash_25 rfl (lv_at hl 2 rfl) ?_
      refine lv_aload_n hx hb dX3_wash_26 rfl (lv_at hl 0 rfl) ?_
      refine h_getC (n := 4) (j := (u0 + 4)) (sh := (1, 3)) Z hS cls_2 hu0 (by decide) rfl rfl rfl fl_X3_24_2 dX3_wash_27 (fun hc6 => ?_)
      refine lv_iconst (v := (1 : Int32)) hx hb dX3_wash_30 (by decide) ?_
      refine h_iald Z hS hc6 dX3_wash_31 h (fun x7 h => ?_)
      refine lv_icmp_le (tgt := 62) hx hb dX3_wash_32 (by decide) (fun c8 => ?_) (fun c8 => ?_)
      · have h := if_t h c8
        refine lv_iinc (v := (v4 + (1 : Int32))) (lv' := [(4, .int (v4 + (1 : Int32))), (0, .ref (ad u0)), (1, .ref (ad u1)), (2, .int u2), (3, .ref (ad u3))]) hx hb dX3_wash_62 hl (k := 4) rfl rfl (by decide) rfl (fun ls hl => ?_)
        refine lv_goto (tgt := 3) hx hb dX3_wash_65 (by decide) ?_
        exact ih _ _ _ _ _ hS (lv_sub hl [1, 2, 3, 4, 0] rfl) h
      · have h := if_f h c8
        refine lv_aload_n hx hb dX3_wash_35 rfl (lv_at hl 0 rfl) ?_
        refine h_getC (n := 1) (j := (u0 + 1)) (sh := (6, 10)) Z hS cls_2 hu0 (by decide) rfl rfl rfl fl_X3_11_2 dX3_wash_36 (fun hc9 => ?_)
        refine lv_iload hx hb dX3_wash_39 (lv_at hl 4 rfl) ?_
        refine h_aldN (sh := (14, 0)) Z hS hc9 (by decide) (by decide) rfl dX3_wash_41 h (fun j10 hj10 h => ?_)
        refine lv_bipush (v := (20 : Int32)) hx hb dX3_wash_42 (by decide) ?_
        refine lv_aload_n hx hb dX3_wash_44 rfl (lv_at hl 0 rfl) ?_
        refine h_getC (n := 1) (j := (u0 + 1)) (sh := (6, 10)) Z hS cls_2 hu0 (by decide) rfl rfl rfl fl_X3_11_2 dX3_wash_45 (fun hc11 => ?_)
        refine lv_iload hx hb dX3_wash_48 (lv_at hl 4 rfl) ?_
        refine h_aldN (sh := (14, 0)) Z hS hc11 (by decide) (by decide) rfl dX3_wash_50 h (fun j12 hj12 h => ?_)
        refine h_getI Z hS cls_4 hj12 (by decide) rfl fl_X3_84_4 dX3_wash_51 h (fun x13 h => ?_)
        refine lv_iconst (v := (1 : Int32)) hx hb dX3_wash_54 (by decide) ?_
        refine lv_iadd hx hb dX3_wash_55 ?_
        refine y_imin hx hb (hl.1 ▸ Z.2.2.2.2.1) Z.2.2.2.2.2 q994 (by decide) (Nat.le_of_ble_eq_true rfl) (Nat.zero_le _) (Nat.zero_le _) dX3_wash_56 ?_
        refine h_putI Z hS cls_4 hj10 (by decide) rfl rfl rfl fl_X3_84_4 dX3_wash_59 h (fun σ14 H locs hS h => ?_)
        refine lv_iinc (v := (v4 + (1 : Int32))) (lv' := [(4, .int (v4 + (1 : Int32))), (0, .ref (ad u0)), (1, .ref (ad u1)), (2, .int u2), (3, .ref (ad u3))]) hx hb dX3_wash_62 hl (k := 4) rfl rfl (by decide) rfl (fun ls hl => ?_)
        refine lv_goto (tgt := 3) hx hb dX3_wash_65 (by decide) ?_
        exact ih _ _ _ _ _ hS (lv_sub hl [1, 2, 3, 4, 0] rfl) h
set_option maxRecDepth 100000 in
set_option maxHeartbeats 4000000 in
theorem w_X3_wash {i0 : Nat} {a1 : Nat} {a2 : Int32} {a3 : Nat} (hi0 : S i0 = (12, 0)) (ha1 : S a1 = (11, 0)) (ha3 : S a3 = (1, 8)) {r : Mem} (h : f_X3_wash σ i0 a1 a2 a3 = some r) : Met l yX3_wash (ws_ yX3_wash cX3_wash 5 none) rm_X3_wash (va_Pc [.ref (ad i0), .ref (ad a1), .int a2, .ref (ad a3)] (PreG D (Ew D A) A ad S σ)) (QG D A ad S none r) 0 0 A := by
  refine y_met (by decide) (Nat.le_of_ble_eq_true rfl) (fun p e s m below meth c ls Z hS hl => ?_)
  have hx := Z.1
  have hb := Z.2.1
  have hown := Z.2.2.2.2.2.1
  have hts := Z.2.2.2.2.2.2.1
  unfold f_X3_wash at h
  refine lv_iconst (v := (0 : Int32)) hx hb dX3_wash_0 (by decide) ?_
  refine lv_istore (lv' := [(4, .int (0 : Int32)), (0, .ref (ad i0)), (1, .ref (ad a1)), (2, .int a2), (3, .ref (ad a3))]) hx hb dX3_wash_1 hl (by decide) rfl (fun ls hl => ?_)
  refine w_X3_wash_L3 Z hi0 ha1 ha3 (fun σ15 H locs ls hS hl h => ?_) FU _ _ _ _ _ hS (lv_sub hl [1, 2, 3, 4, 0] rfl) h
  refine lv_aload_n hx hb dX3_wash_68 rfl (lv_at hl 0 rfl) ?_
  refine h_getC (n := 2) (j := (i0 + 2)) (sh := (13, 0)) Z hS cls_2 hi0 (by decide) rfl rfl rfl fl_X3_20_2 dX3_wash_69 (fun hc16 => ?_)
  refine lv_aload_n hx hb dX3_wash_72 rfl (lv_at hl 1 rfl) ?_
  refine h_cm hS h (fun z hz => h_rU (rest := []) Z hS hc16 rfl vu_X3_69 (w_X4_empties_3 hc16 ha3 hz) rfl rfl ⟨by decide, by decide⟩ rfl hl.1 rfl (Nat.le_of_ble_eq_true rfl) (Nat.zero_le _) (Nat.zero_le _) dX3_wash_73) (fun σ17 H locs hS h => ?_)
  refine lv_aload_n hx hb dX3_wash_76 rfl (lv_at hl 0 rfl) ?_
  refine lv_dup hx hb dX3_wash_77 rfl ?_
  refine h_getI Z hS cls_2 hi0 (by decide) rfl fl_X3_74_2 dX3_wash_78 h (fun x18 h => ?_)
  refine lv_iconst (v := (1 : Int32)) hx hb dX3_wash_81 (by decide) ?_
  refine lv_iadd hx hb dX3_wash_82 ?_
  refine h_putI Z hS cls_2 hi0 (by decide) rfl rfl rfl fl_X3_74_2 dX3_wash_83 h (fun σ19 H locs hS h => ?_)
  refine lv_aload_n hx hb dX3_wash_86 rfl (lv_at hl 0 rfl) ?_
  refine lv_iconst (v := (0 : Int32)) hx hb dX3_wash_87 (by decide) ?_
  refine h_putI Z hS cls_2 hi0 (by decide) rfl rfl rfl fl_X3_77_2 dX3_wash_88 h (fun σ20 H locs hS h => ?_)
  exact h_vret Z hS dX3_wash_91 h
end
theorem dX1_parts_0 : decode cX1_parts 0 = .ok (.lconst 0, 1) := by decide +kernel
theorem dX1_parts_1 : decode cX1_parts 1 = .ok (.lstore_n 1, 1) := by decide +kernel
theorem dX1_parts_2 : decode cX1_parts 2 = .ok (.iconst 0, 1) := by decide +kernel
theorem dX1_parts_3 : decode cX1_parts 3 = .ok (.istore_n 3, 1) := by decide +kernel
theorem dX1_parts_4 : decode cX1_parts 4 = .ok (.iload_n 3, 1) := by decide +kernel
theorem dX1_parts_5 : decode cX1_parts 5 = .ok (.aload_n 0, 1) := by decide +kernel
theorem dX1_parts_6 : decode cX1_parts 6 = .ok (.getfield 140, 3) := by decide +kernel
theorem dX1_parts_9 : decode cX1_parts 9 = .ok (.if_icmp .ge 74, 3) := by decide +kernel
theorem dX1_parts_12 : decode cX1_parts 12 = .ok (.aload_n 0, 1) := by decide +kernel
theorem dX1_parts_13 : decode cX1_parts 13 = .ok (.getfield 24, 3) := by decide +kernel
theorem dX1_parts_16 : decode cX1_parts 16 = .ok (.iload_n 3, 1) := by decide +kernel
theorem dX1_parts_17 : decode cX1_parts 17 = .ok (.aaload, 1) := by decide +kernel
theorem dX1_parts_18 : decode cX1_parts 18 = .ok (.astore 4, 2) := by decide +kernel
theorem dX1_parts_20 : decode cX1_parts 20 = .ok (.aload 4, 2) := by decide +kernel
theorem dX1_parts_22 : decode cX1_parts 22 = .ok (.aload 4, 2) := by decide +kernel
theorem dX1_parts_24 : decode cX1_parts 24 = .ok (.getfield 193, 3) := by decide +kernel
theorem dX1_parts_27 : decode cX1_parts 27 = .ok (.iconst 1, 1) := by decide +kernel
theorem dX1_parts_28 : decode cX1_parts 28 = .ok (.if_icmp .ne 36, 3) := by decide +kernel
theorem dX1_parts_31 : decode cX1_parts 31 = .ok (.aload 4, 2) := by decide +kernel
theorem dX1_parts_33 : decode cX1_parts 33 = .ok (.invokevirtual 209, 3) := by decide +kernel
theorem dX1_parts_36 : decode cX1_parts 36 = .ok (.ifCond .eq 28, 3) := by decide +kernel
theorem dX1_parts_39 : decode cX1_parts 39 = .ok (.ldc_w 340, 3) := by decide +kernel
theorem dX1_parts_42 : decode cX1_parts 42 = .ok (.iconst 1, 1) := by decide +kernel
theorem dX1_parts_43 : decode cX1_parts 43 = .ok (.aload 4, 2) := by decide +kernel
theorem dX1_parts_45 : decode cX1_parts 45 = .ok (.invokevirtual 213, 3) := by decide +kernel
theorem dX1_parts_48 : decode cX1_parts 48 = .ok (.aload 4, 2) := by decide +kernel
theorem dX1_parts_50 : decode cX1_parts 50 = .ok (.getfield 202, 3) := by decide +kernel
theorem dX1_parts_53 : decode cX1_parts 53 = .ok (.invokevirtual 206, 3) := by decide +kernel
theorem dX1_parts_56 : decode cX1_parts 56 = .ok (.iadd, 1) := by decide +kernel
theorem dX1_parts_57 : decode cX1_parts 57 = .ok (.invokestatic 321, 3) := by decide +kernel
theorem dX1_parts_60 : decode cX1_parts 60 = .ok (.idiv, 1) := by decide +kernel
theorem dX1_parts_61 : decode cX1_parts 61 = .ok (.goto 4, 3) := by decide +kernel
theorem dX1_parts_64 : decode cX1_parts 64 = .ok (.iconst 0, 1) := by decide +kernel
theorem dX1_parts_65 : decode cX1_parts 65 = .ok (.putfield 337, 3) := by decide +kernel
theorem dX1_parts_68 : decode cX1_parts 68 = .ok (.lload_n 1, 1) := by decide +kernel
theorem dX1_parts_69 : decode cX1_parts 69 = .ok (.aload 4, 2) := by decide +kernel
theorem dX1_parts_71 : decode cX1_parts 71 = .ok (.getfield 337, 3) := by decide +kernel
theorem dX1_parts_74 : decode cX1_parts 74 = .ok (.i2l, 1) := by decide +kernel
theorem dX1_parts_75 : decode cX1_parts 75 = .ok (.ladd, 1) := by decide +kernel
theorem dX1_parts_76 : decode cX1_parts 76 = .ok (.lstore_n 1, 1) := by decide +kernel
theorem dX1_parts_77 : decode cX1_parts 77 = .ok (.iinc 3 1, 3) := by decide +kernel
theorem dX1_parts_80 : decode cX1_parts 80 = .ok (.goto (-76), 3) := by decide +kernel
theorem dX1_parts_83 : decode cX1_parts 83 = .ok (.aload_n 0, 1) := by decide +kernel
theorem dX1_parts_84 : decode cX1_parts 84 = .ok (.getfield 294, 3) := by decide +kernel
theorem dX1_parts_87 : decode cX1_parts 87 = .ok (.istore_n 3, 1) := by decide +kernel
theorem dX1_parts_88 : decode cX1_parts 88 = .ok (.iconst 0, 1) := by decide +kernel
theorem dX1_parts_89 : decode cX1_parts 89 = .ok (.istore 4, 2) := by decide +kernel
theorem dX1_parts_91 : decode cX1_parts 91 = .ok (.iload 4, 2) := by decide +kernel
theorem dX1_parts_93 : decode cX1_parts 93 = .ok (.aload_n 0, 1) := by decide +kernel
theorem dX1_parts_94 : decode cX1_parts 94 = .ok (.getfield 140, 3) := by decide +kernel
theorem dX1_parts_97 : decode cX1_parts 97 = .ok (.if_icmp .ge 58, 3) := by decide +kernel
theorem dX1_parts_100 : decode cX1_parts 100 = .ok (.lload_n 1, 1) := by decide +kernel
theorem dX1_parts_101 : decode cX1_parts 101 = .ok (.lconst 0, 1) := by decide +kernel
theorem dX1_parts_102 : decode cX1_parts 102 = .ok (.lcmp, 1) := by decide +kernel
theorem dX1_parts_103 : decode cX1_parts 103 = .ok (.ifCond .le 52, 3) := by decide +kernel
theorem dX1_parts_106 : decode cX1_parts 106 = .ok (.aload_n 0, 1) := by decide +kernel
theorem dX1_parts_107 : decode cX1_parts 107 = .ok (.getfield 24, 3) := by decide +kernel
theorem dX1_parts_110 : decode cX1_parts 110 = .ok (.iload 4, 2) := by decide +kernel
theorem dX1_parts_112 : decode cX1_parts 112 = .ok (.aaload, 1) := by decide +kernel
theorem dX1_parts_113 : decode cX1_parts 113 = .ok (.aload_n 0, 1) := by decide +kernel
theorem dX1_parts_114 : decode cX1_parts 114 = .ok (.getfield 294, 3) := by decide +kernel
theorem dX1_parts_117 : decode cX1_parts 117 = .ok (.i2l, 1) := by decide +kernel
theorem dX1_parts_118 : decode cX1_parts 118 = .ok (.aload_n 0, 1) := by decide +kernel
theorem dX1_parts_119 : decode cX1_parts 119 = .ok (.getfield 24, 3) := by decide +kernel
theorem dX1_parts_122 : decode cX1_parts 122 = .ok (.iload 4, 2) := by decide +kernel
theorem dX1_parts_124 : decode cX1_parts 124 = .ok (.aaload, 1) := by decide +kernel
theorem dX1_parts_125 : decode cX1_parts 125 = .ok (.getfield 337, 3) := by decide +kernel
theorem dX1_parts_128 : decode cX1_parts 128 = .ok (.i2l, 1) := by decide +kernel
theorem dX1_parts_129 : decode cX1_parts 129 = .ok (.lmul, 1) := by decide +kernel
theorem dX1_parts_130 : decode cX1_parts 130 = .ok (.lload_n 1, 1) := by decide +kernel
theorem dX1_parts_131 : decode cX1_parts 131 = .ok (.ldiv, 1) := by decide +kernel
theorem dX1_parts_132 : decode cX1_parts 132 = .ok (.l2i, 1) := by decide +kernel
theorem dX1_parts_133 : decode cX1_parts 133 = .ok (.putfield 216, 3) := by decide +kernel
theorem dX1_parts_136 : decode cX1_parts 136 = .ok (.iload_n 3, 1) := by decide +kernel
theorem dX1_parts_137 : decode cX1_parts 137 = .ok (.aload_n 0, 1) := by decide +kernel
theorem dX1_parts_138 : decode cX1_parts 138 = .ok (.getfield 24, 3) := by decide +kernel
theorem dX1_parts_141 : decode cX1_parts 141 = .ok (.iload 4, 2) := by decide +kernel
theorem dX1_parts_143 : decode cX1_parts 143 = .ok (.aaload, 1) := by decide +kernel
theorem dX1_parts_144 : decode cX1_parts 144 = .ok (.getfield 216, 3) := by decide +kernel
theorem dX1_parts_147 : decode cX1_parts 147 = .ok (.isub, 1) := by decide +kernel
theorem dX1_parts_148 : decode cX1_parts 148 = .ok (.istore_n 3, 1) := by decide +kernel
theorem dX1_parts_149 : decode cX1_parts 149 = .ok (.iinc 4 1, 3) := by decide +kernel
theorem dX1_parts_152 : decode cX1_parts 152 = .ok (.goto (-61), 3) := by decide +kernel
theorem dX1_parts_155 : decode cX1_parts 155 = .ok (.iconst 0, 1) := by decide +kernel
theorem dX1_parts_156 : decode cX1_parts 156 = .ok (.istore 4, 2) := by decide +kernel
theorem dX1_parts_158 : decode cX1_parts 158 = .ok (.iload 4, 2) := by decide +kernel
theorem dX1_parts_160 : decode cX1_parts 160 = .ok (.aload_n 0, 1) := by decide +kernel
theorem dX1_parts_161 : decode cX1_parts 161 = .ok (.getfield 140, 3) := by decide +kernel
theorem dX1_parts_164 : decode cX1_parts 164 = .ok (.if_icmp .ge 48, 3) := by decide +kernel
theorem dX1_parts_167 : decode cX1_parts 167 = .ok (.iload_n 3, 1) := by decide +kernel
theorem dX1_parts_168 : decode cX1_parts 168 = .ok (.ifCond .le 44, 3) := by decide +kernel
theorem dX1_parts_171 : decode cX1_parts 171 = .ok (.aload_n 0, 1) := by decide +kernel
theorem dX1_parts_172 : decode cX1_parts 172 = .ok (.getfield 24, 3) := by decide +kernel
theorem dX1_parts_175 : decode cX1_parts 175 = .ok (.iload 4, 2) := by decide +kernel
theorem dX1_parts_177 : decode cX1_parts 177 = .ok (.aaload, 1) := by decide +kernel
theorem dX1_parts_178 : decode cX1_parts 178 = .ok (.getfield 337, 3) := by decide +kernel
theorem dX1_parts_181 : decode cX1_parts 181 = .ok (.ifCond .ne 6, 3) := by decide +kernel
theorem dX1_parts_184 : decode cX1_parts 184 = .ok (.goto 22, 3) := by decide +kernel
theorem dX1_parts_187 : decode cX1_parts 187 = .ok (.aload_n 0, 1) := by decide +kernel
theorem dX1_parts_188 : decode cX1_parts 188 = .ok (.getfield 24, 3) := by decide +kernel
theorem dX1_parts_191 : decode cX1_parts 191 = .ok (.iload 4, 2) := by decide +kernel
theorem dX1_parts_193 : decode cX1_parts 193 = .ok (.aaload, 1) := by decide +kernel
theorem dX1_parts_194 : decode cX1_parts 194 = .ok (.dup, 1) := by decide +kernel
theorem dX1_parts_195 : decode cX1_parts 195 = .ok (.getfield 216, 3) := by decide +kernel
theorem dX1_parts_198 : decode cX1_parts 198 = .ok (.iconst 1, 1) := by decide +kernel
theorem dX1_parts_199 : decode cX1_parts 199 = .ok (.iadd, 1) := by decide +kernel
theorem dX1_parts_200 : decode cX1_parts 200 = .ok (.putfield 216, 3) := by decide +kernel
theorem dX1_parts_203 : decode cX1_parts 203 = .ok (.iinc 3 (-1), 3) := by decide +kernel
theorem dX1_parts_206 : decode cX1_parts 206 = .ok (.iinc 4 1, 3) := by decide +kernel
theorem dX1_parts_209 : decode cX1_parts 209 = .ok (.goto (-51), 3) := by decide +kernel
theorem dX1_parts_212 : decode cX1_parts 212 = .ok (.return_, 1) := by decide +kernel
abbrev rm_X1_parts : Room := k2_rm 5 105
section
variable {p : Program} {l : Launch} {e : Env} {s : State} {m : MethodId} {args : Array Value} {below : List Frame} {meth : Method} {c : Code} {D : gD} {A : Nat → Prop} {ad : Nat → Nat} {S : Nat → Nat × Nat} {σ : Mem}
set_option maxRecDepth 100000 in
set_option maxHeartbeats 4000000 in
theorem w_X1_parts_L4 (Z : Cz D (Ew D A) A cX1_parts 5 none RX1 p s m args meth c) (hu0 : S 0 = (10, 0)) {r : Mem} {k83 : Mem → Int64 → Option Mem}
    (hk83 : ∀ (σ : Mem) (w1 : Int64) (H : Heap) (locs : List Loc) (ls : Array Slot), St D A ad S σ s.heap H locs → lv_has ls 5 [(0, .ref (ad 0)), (1, .long w1)] → k83 σ w1 = some r → W p l e rm_X1_parts s m args below meth c H locs 0 0 (MQ below (QG D A ad S none r) args s 0 0 A) (F0 m 83 ls [])) :
    ∀ (n : Nat) (σ : Mem) (v1 : Int64) (v3 : Int32) (H : Heap) (locs : List Loc) (ls : Array Slot), St D A ad S σ s.heap H locs → lv_has ls 5 [(0, .ref (ad 0)), (1, .long v1), (3, .int v3)] → f_X1_parts_L4 k83 n σ v1 v3 = some r → W p l e rm_X1_parts s m args below meth c H locs 0 0 (MQ below (QG D A ad S none r) args s 0 0 A) (F0 m 4 ls []) := by
  have hx := Z.1
  have hb := Z.2.1
  have hown := Z.2.2.2.2.2.1
  have hts := Z.2.2.2.2.2.2.1
  intro n
  induction n with
  | zero => intro σ v1 v3 H locs ls hS hl h; cases h
  | succ n ih =>
    intro σ v1 v3 H locs ls hS hl h
    unfold f_X1_parts_L4 at h
    refine lv_iload_n hx hb dX1_parts_4 rfl (lv_at hl 2 rfl) ?_
    refine lv_aload_n hx hb dX1_parts_5 rfl (lv_at hl 0 rfl) ?_
    refine h_getI Z hS cls_0 hu0 (by decide) rfl fl_X1_140_0 dX1_parts_6 h (fun x1 h => ?_)
    refine lv_icmp_ge (tgt := 83) hx hb dX1_parts_9 (by decide) (fun c2 => ?_) (fun c2 => ?_)
    · have h := if_t h c2
      exact hk83 _ _ _ _ _ hS (lv_sub hl [0, 1] rfl) h
    · have h := if_f h c2
      refine lv_aload_n hx hb dX1_parts_12 rfl (lv_at hl 0 rfl) ?_
      refine h_getC (n := 3) (j := 3) (sh := (5, 8)) Z hS cls_0 hu0 (by decide) rfl rfl rfl fl_X1_24_0 dX1_parts_13 (fun hc3 => ?_)
      refine lv_iload_n hx hb dX1_parts_16 rfl (lv_at hl 2 rfl) ?_
      refine h_aldN (sh := (12, 0)) Z hS hc3 (by decide) (by decide) rfl dX1_parts_17 h (fun j4 hj4 h => ?_)
      refine lv_astore (lv' := [(4, .ref (ad j4)), (0, .ref (ad 0)), (1, .long v1), (3, .int v3)]) hx hb dX1_parts_18 hl (by decide) rfl (fun ls hl => ?_)
      refine lv_aload hx hb dX1_parts_20 (lv_at hl 0 rfl) ?_
      refine lv_aload hx hb dX1_parts_22 (lv_at hl 0 rfl) ?_
      refine h_getI Z hS cls_2 hj4 (by decide) rfl fl_X1_193_2 dX1_parts_24 h (fun x5 h => ?_)
      refine lv_iconst (v := (1 : Int32)) hx hb dX1_parts_27 (by decide) ?_
      obtain ⟨x7, hp8, h⟩ := bnd_el h
      have K8 : ∀ (H : Heap) (locs : List Loc) (ls : Array Slot), St D A ad S σ s.heap H locs → lv_has ls 5 [(0, .ref (ad 0)), (1, .long v1), (3, .int v3), (4, .ref (ad j4))] → W p l e rm_X1_parts s m args below meth c H locs 0 0 (MQ below (QG D A ad S none r) args s 0 0 A) (F0 m 65 ls [.int x7, .ref (ad j4)]) := by
        intro H locs ls hS hl
        refine h_putI Z hS cls_2 hj4 (by decide) rfl rfl rfl fl_X1_337_2 dX1_parts_65 h (fun σ9 H locs hS h => ?_)
        refine lv_lload_n hx hb dX1_parts_68 rfl (lv_at hl 1 rfl) ?_
        refine lv_aload hx hb dX1_parts_69 (lv_at hl 3 rfl) ?_
        refine h_getI Z hS cls_2 hj4 (by decide) rfl fl_X1_337_2 dX1_parts_71 h (fun x10 h => ?_)
        refine lv_i2l hx hb dX1_parts_74 rfl ?_
        refine lv_ladd hx hb dX1_parts_75 ?_
        refine h_letl h (fun y11 h => ?_)
        refine lv_lstore_n (lv' := [(1, .long y11), (0, .ref (ad 0)), (3, .int v3), (4, .ref (ad j4))]) hx hb dX1_parts_76 rfl hl (by decide) rfl (fun ls hl => ?_)
        refine lv_iinc (v := (v3 + (1 : Int32))) (lv' := [(3, .int (v3 + (1 : Int32))), (1, .long y11), (0, .ref (ad 0)), (4, .ref (ad j4))]) hx hb dX1_parts_77 hl (k := 2) rfl rfl (by decide) rfl (fun ls hl => ?_)
        refine lv_goto (tgt := 4) hx hb dX1_parts_80 (by decide) ?_
        exact ih _ _ _ _ _ _ hS (lv_sub hl [2, 1, 0] rfl) h
      clear h
      have h := hp8
      clear hp8
      refine lv_icmp_ne (tgt := 64) hx hb dX1_parts_28 (by decide) (fun c6 => ?_) (fun c6 => ?_)
      · have h := if_f h c6
        refine lv_iconst (v := (0 : Int32)) hx hb dX1_parts_64 (by decide) ?_
        cases h
        exact K8 _ _ _ hS (lv_sub hl [1, 2, 3, 0] rfl)
      · have h := if_t h c6
        refine lv_aload hx hb dX1_parts_31 (lv_at hl 0 rfl) ?_
        refine h_ci hS h (fun z hz => h_rV (rest := [.ref (ad j4)]) Z hS hj4 rfl v_X1_209 (w_X3_isOpen hj4 hz) rfl rfl ⟨by decide, by decide⟩ rfl hl.1 rfl (Nat.le_of_ble_eq_true rfl) (Nat.zero_le _) (Nat.zero_le _) dX1_parts_33) (fun x12 H locs hS h => ?_)
        refine lv_if_eq (tgt := 64) hx hb dX1_parts_36 (by decide) (fun c13 => ?_) (fun c13 => ?_)
        · have h := if_t h c13
          refine lv_iconst (v := (0 : Int32)) hx hb dX1_parts_64 (by decide) ?_
          cases h
          exact K8 _ _ _ hS (lv_sub hl [1, 2, 3, 0] rfl)
        · have h := if_f h c13
          refine lv_ldcw (v := (1000000 : Int32)) hx hb hown (hts _ q1003) dX1_parts_39 ?_
          refine lv_iconst (v := (1 : Int32)) hx hb dX1_parts_42 (by decide) ?_
          refine lv_aload hx hb dX1_parts_43 (lv_at hl 0 rfl) ?_
          refine h_ci hS h (fun z hz => h_rV (rest := [.int (1 : Int32), .int (1000000 : Int32), .ref (ad j4)]) Z hS hj4 rfl v_X1_213 (w_X3_bed hj4 hz) rfl rfl ⟨by decide, by decide⟩ rfl hl.1 rfl (Nat.le_of_ble_eq_true rfl) (Nat.zero_le _) (Nat.zero_le _) dX1_parts_45) (fun x14 H locs hS h => ?_)
          refine lv_aload hx hb dX1_parts_48 (lv_at hl 0 rfl) ?_
          refine h_getC (n := 2) (j := (j4 + 2)) (sh := (13, 0)) Z hS cls_2 hj4 (by decide) rfl rfl rfl fl_X1_202_2 dX1_parts_50 (fun hc15 => ?_)
          refine h_ci hS h (fun z hz => h_rD (rest := [.int x14, .int (1 : Int32), .int (1000000 : Int32), .ref (ad j4)]) Z hS hc15 rfl vd_X1_206 (w_X19_all_3 hc15 hz) rfl rfl ⟨by decide, by decide⟩ rfl hl.1 rfl (Nat.le_of_ble_eq_true rfl) (Nat.zero_le _) (Nat.zero_le _) dX1_parts_53) (fun x16 H locs hS h => ?_)
          refine lv_iadd hx hb dX1_parts_56 ?_
          refine y_imax hx hb (hl.1 ▸ Z.2.2.2.2.1) Z.2.2.2.2.2 q970 (by decide) (Nat.le_of_ble_eq_true rfl) (Nat.zero_le _) (Nat.zero_le _) dX1_parts_57 ?_
          refine h_idiv Z dX1_parts_60 h (fun h => ?_)
          refine lv_goto (tgt := 65) hx hb dX1_parts_61 (by decide) ?_
          cases h
          exact K8 _ _ _ hS (lv_sub hl [1, 2, 3, 0] rfl)
set_option maxRecDepth 100000 in
set_option maxHeartbeats 4000000 in
theorem w_X1_parts_L91 (Z : Cz D (Ew D A) A cX1_parts 5 none RX1 p s m args meth c) {u1 : Int64} (hu0 : S 0 = (10, 0)) {r : Mem} {k155 : Mem → Int32 → Option Mem}
    (hk155 : ∀ (σ : Mem) (w3 : Int32) (H : Heap) (locs : List Loc) (ls : Array Slot), St D A ad S σ s.heap H locs → lv_has ls 5 [(0, .ref (ad 0)), (3, .int w3)] → k155 σ w3 = some r → W p l e rm_X1_parts s m args below meth c H locs 0 0 (MQ below (QG D A ad S none r) args s 0 0 A) (F0 m 155 ls [])) :
    ∀ (n : Nat) (σ : Mem) (v3 : Int32) (v4 : Int32) (H : Heap) (locs : List Loc) (ls : Array Slot), St D A ad S σ s.heap H locs → lv_has ls 5 [(0, .ref (ad 0)), (1, .long u1), (3, .int v3), (4, .int v4)] → f_X1_parts_L91 k155 u1 n σ v3 v4 = some r → W p l e rm_X1_parts s m args below meth c H locs 0 0 (MQ below (QG D A ad S none r) args s 0 0 A) (F0 m 91 ls []) := by
  have hx := Z.1
  have hb := Z.2.1
  have hown := Z.2.2.2.2.2.1
  have hts := Z.2.2.2.2.2.2.1
  intro n
  induction n with
  | zero => intro σ v3 v4 H locs ls hS hl h; cases h
  | succ n ih =>
    intro σ v3 v4 H locs ls hS hl h
    unfold f_X1_parts_L91 at h
    refine lv_iload hx hb dX1_parts_91 (lv_at hl 3 rfl) ?_
    refine lv_aload_n hx hb dX1_parts_93 rfl (lv_at hl 0 rfl) ?_
    refine h_getI Z hS cls_0 hu0 (by decide) rfl fl_X1_140_0 dX1_parts_94 h (fun x20 h => ?_)
    refine lv_icmp_ge (tgt := 155) hx hb dX1_parts_97 (by decide) (fun c21 => ?_) (fun c21 => ?_)
    · have h := if_t h c21
      exact hk155 _ _ _ _ _ hS (lv_sub hl [0, 2] rfl) h
    · have h := if_f h c21
      refine lv_lload_n hx hb dX1_parts_100 rfl (lv_at hl 1 rfl) ?_
      refine lv_lconst (v := (0 : Int64)) hx hb dX1_parts_101 (by decide) ?_
      refine y_lcmp_le (tgt := 155) hx hb dX1_parts_102 dX1_parts_103 (by decide) (fun c22 => ?_) (fun c22 => ?_)
      · have h := if_t h c22
        exact hk155 _ _ _ _ _ hS (lv_sub hl [0, 2] rfl) h
      · have h := if_f h c22
        refine lv_aload_n hx hb dX1_parts_106 rfl (lv_at hl 0 rfl) ?_
        refine h_getC (n := 3) (j := 3) (sh := (5, 8)) Z hS cls_0 hu0 (by decide) rfl rfl rfl fl_X1_24_0 dX1_parts_107 (fun hc23 => ?_)
        refine lv_iload hx hb dX1_parts_110 (lv_at hl 3 rfl) ?_
        refine h_aldN (sh := (12, 0)) Z hS hc23 (by decide) (by decide) rfl dX1_parts_112 h (fun j24 hj24 h => ?_)
        refine lv_aload_n hx hb dX1_parts_113 rfl (lv_at hl 0 rfl) ?_
        refine h_getI Z hS cls_0 hu0 (by decide) rfl fl_X1_294_0 dX1_parts_114 h (fun x25 h => ?_)
        refine lv_i2l hx hb dX1_parts_117 rfl ?_
        refine lv_aload_n hx hb dX1_parts_118 rfl (lv_at hl 0 rfl) ?_
        refine h_getC (n := 3) (j := 3) (sh := (5, 8)) Z hS cls_0 hu0 (by decide) rfl rfl rfl fl_X1_24_0 dX1_parts_119 (fun hc26 => ?_)
        refine lv_iload hx hb dX1_parts_122 (lv_at hl 3 rfl) ?_
        refine h_aldN (sh := (12, 0)) Z hS hc26 (by decide) (by decide) rfl dX1_parts_124 h (fun j27 hj27 h => ?_)
        refine h_getI Z hS cls_2 hj27 (by decide) rfl fl_X1_337_2 dX1_parts_125 h (fun x28 h => ?_)
        refine lv_i2l hx hb dX1_parts_128 rfl ?_
        refine lv_lmul hx hb dX1_parts_129 ?_
        refine lv_lload_n hx hb dX1_parts_130 rfl (lv_at hl 1 rfl) ?_
        refine h_ldiv Z dX1_parts_131 h (fun h => ?_)
        refine lv_l2i hx hb dX1_parts_132 rfl ?_
        refine h_putI Z hS cls_2 hj24 (by decide) rfl rfl rfl fl_X1_216_2 dX1_parts_133 h (fun σ29 H locs hS h => ?_)
        refine lv_iload_n hx hb dX1_parts_136 rfl (lv_at hl 2 rfl) ?_
        refine lv_aload_n hx hb dX1_parts_137 rfl (lv_at hl 0 rfl) ?_
        refine h_getC (n := 3) (j := 3) (sh := (5, 8)) Z hS cls_0 hu0 (by decide) rfl rfl rfl fl_X1_24_0 dX1_parts_138 (fun hc30 => ?_)
        refine lv_iload hx hb dX1_parts_141 (lv_at hl 3 rfl) ?_
        refine h_aldN (sh := (12, 0)) Z hS hc30 (by decide) (by decide) rfl dX1_parts_143 h (fun j31 hj31 h => ?_)
        refine h_getI Z hS cls_2 hj31 (by decide) rfl fl_X1_216_2 dX1_parts_144 h (fun x32 h => ?_)
        refine lv_isub hx hb dX1_parts_147 ?_
        refine h_leti h (fun x33 h => ?_)
        refine lv_istore_n (lv' := [(3, .int x33), (0, .ref (ad 0)), (1, .long u1), (4, .int v4)]) hx hb dX1_parts_148 rfl hl (by decide) rfl (fun ls hl => ?_)
        refine lv_iinc (v := (v4 + (1 : Int32))) (lv' := [(4, .int (v4 + (1 : Int32))), (3, .int x33), (0, .ref (ad 0)), (1, .long u1)]) hx hb dX1_parts_149 hl (k := 3) rfl rfl (by decide) rfl (fun ls hl => ?_)
        refine lv_goto (tgt := 91) hx hb dX1_parts_152 (by decide) ?_
        exact ih _ _ _ _ _ _ hS (lv_sub hl [2, 3, 1, 0] rfl) h
set_option maxRecDepth 100000 in
set_option maxHeartbeats 4000000 in
theorem w_X1_parts_L158 (Z : Cz D (Ew D A) A cX1_parts 5 none RX1 p s m args meth c) (hu0 : S 0 = (10, 0)) {r : Mem} {k212 : Mem → Option Mem}
    (hk212 : ∀ (σ : Mem)  (H : Heap) (locs : List Loc) (ls : Array Slot), St D A ad S σ s.heap H locs → lv_has ls 5 [] → k212 σ = some r → W p l e rm_X1_parts s m args below meth c H locs 0 0 (MQ below (QG D A ad S none r) args s 0 0 A) (F0 m 212 ls [])) :
    ∀ (n : Nat) (σ : Mem) (v3 : Int32) (v4 : Int32) (H : Heap) (locs : List Loc) (ls : Array Slot), St D A ad S σ s.heap H locs → lv_has ls 5 [(0, .ref (ad 0)), (3, .int v3), (4, .int v4)] → f_X1_parts_L158 k212 n σ v3 v4 = some r → W p l e rm_X1_parts s m args below meth c H locs 0 0 (MQ below (QG D A ad S none r) args s 0 0 A) (F0 m 158 ls []) := by
  have hx := Z.1
  have hb := Z.2.1
  have hown := Z.2.2.2.2.2.1
  have hts := Z.2.2.2.2.2.2.1
  intro n
  induction n with
  | zero => intro σ v3 v4 H locs ls hS hl h; cases h
  | succ n ih =>
    intro σ v3 v4 H locs ls hS hl h
    unfold f_X1_parts_L158 at h
    refine lv_iload hx hb dX1_parts_158 (lv_at hl 2 rfl) ?_
    refine lv_aload_n hx hb dX1_parts_160 rfl (lv_at hl 0 rfl) ?_
    refine h_getI Z hS cls_0 hu0 (by decide) rfl fl_X1_140_0 dX1_parts_161 h (fun x36 h => ?_)
    refine lv_icmp_ge (tgt := 212) hx hb dX1_parts_164 (by decide) (fun c37 => ?_) (fun c37 => ?_)
    · have h := if_t h c37
      exact hk212 _ _ _ _ hS (lv_sub hl [] rfl) h
    · have h := if_f h c37
      refine lv_iload_n hx hb dX1_parts_167 rfl (lv_at hl 1 rfl) ?_
      refine lv_if_le (tgt := 212) hx hb dX1_parts_168 (by decide) (fun c38 => ?_) (fun c38 => ?_)
      · have h := if_t h c38
        exact hk212 _ _ _ _ hS (lv_sub hl [] rfl) h
      · have h := if_f h c38
        refine lv_aload_n hx hb dX1_parts_171 rfl (lv_at hl 0 rfl) ?_
        refine h_getC (n := 3) (j := 3) (sh := (5, 8)) Z hS cls_0 hu0 (by decide) rfl rfl rfl fl_X1_24_0 dX1_parts_172 (fun hc39 => ?_)
        refine lv_iload hx hb dX1_parts_175 (lv_at hl 2 rfl) ?_
        refine h_aldN (sh := (12, 0)) Z hS hc39 (by decide) (by decide) rfl dX1_parts_177 h (fun j40 hj40 h => ?_)
        refine h_getI Z hS cls_2 hj40 (by decide) rfl fl_X1_337_2 dX1_parts_178 h (fun x41 h => ?_)
        refine lv_if_ne (tgt := 187) hx hb dX1_parts_181 (by decide) (fun c42 => ?_) (fun c42 => ?_)
        · have h := if_f h c42
          refine lv_aload_n hx hb dX1_parts_187 rfl (lv_at hl 0 rfl) ?_
          refine h_getC (n := 3) (j := 3) (sh := (5, 8)) Z hS cls_0 hu0 (by decide) rfl rfl rfl fl_X1_24_0 dX1_parts_188 (fun hc43 => ?_)
          refine lv_iload hx hb dX1_parts_191 (lv_at hl 2 rfl) ?_
          refine h_aldN (sh := (12, 0)) Z hS hc43 (by decide) (by decide) rfl dX1_parts_193 h (fun j44 hj44 h => ?_)
          refine lv_dup hx hb dX1_parts_194 rfl ?_
          refine h_getI Z hS cls_2 hj44 (by decide) rfl fl_X1_216_2 dX1_parts_195 h (fun x45 h => ?_)
          refine lv_iconst (v := (1 : Int32)) hx hb dX1_parts_198 (by decide) ?_
          refine lv_iadd hx hb dX1_parts_199 ?_
          refine h_putI Z hS cls_2 hj44 (by decide) rfl rfl rfl fl_X1_216_2 dX1_parts_200 h (fun σ46 H locs hS h => ?_)
          refine lv_iinc (v := (v3 + (-1 : Int32))) (lv' := [(3, .int (v3 + (-1 : Int32))), (0, .ref (ad 0)), (4, .int v4)]) hx hb dX1_parts_203 hl (k := 1) rfl rfl (by decide) rfl (fun ls hl => ?_)
          refine lv_iinc (v := (v4 + (1 : Int32))) (lv' := [(4, .int (v4 + (1 : Int32))), (3, .int (v3 + (-1 : Int32))), (0, .ref (ad 0))]) hx hb dX1_parts_206 hl (k := 2) rfl rfl (by decide) rfl (fun ls hl => ?_)
          refine lv_goto (tgt := 158) hx hb dX1_parts_209 (by decide) ?_
          exact ih _ _ _ _ _ _ hS (lv_sub hl [2, 1, 0] rfl) h
        · have h := if_t h c42
          refine lv_goto (tgt := 206) hx hb dX1_parts_184 (by decide) ?_
          refine lv_iinc (v := (v4 + (1 : Int32))) (lv' := [(4, .int (v4 + (1 : Int32))), (0, .ref (ad 0)), (3, .int v3)]) hx hb dX1_parts_206 hl (k := 2) rfl rfl (by decide) rfl (fun ls hl => ?_)
          refine lv_goto (tgt := 158) hx hb dX1_parts_209 (by decide) ?_
          exact ih _ _ _ _ _ _ hS (lv_sub hl [1, 2, 0] rfl) h
set_option maxRecDepth 100000 in
set_option maxHeartbeats 4000000 in
theorem w_X1_parts (hi0 : S 0 = (10, 0)) {r : Mem} (h : f_X1_parts σ = some r) : Met l yX1_parts (ws_ yX1_parts cX1_parts 5 none) rm_X1_parts (va_Pc [.ref (ad 0)] (PreG D (Ew D A) A ad S σ)) (QG D A ad S none r) 0 0 A := by
  refine y_met (by decide) (Nat.le_of_ble_eq_true rfl) (fun p e s m below meth c ls Z hS hl => ?_)
  have hx := Z.1
  have hb := Z.2.1
  have hown := Z.2.2.2.2.2.1
  have hts := Z.2.2.2.2.2.2.1
  unfold f_X1_parts at h
  refine lv_lconst (v := (0 : Int64)) hx hb dX1_parts_0 (by decide) ?_
  refine lv_lstore_n (lv' := [(1, .long (0 : Int64)), (0, .ref (ad 0))]) hx hb dX1_parts_1 rfl hl (by decide) rfl (fun ls hl => ?_)
  refine lv_iconst (v := (0 : Int32)) hx hb dX1_parts_2 (by decide) ?_
  refine lv_istore_n (lv' := [(3, .int (0 : Int32)), (1, .long (0 : Int64)), (0, .ref (ad 0))]) hx hb dX1_parts_3 rfl hl (by decide) rfl (fun ls hl => ?_)
  refine w_X1_parts_L4 Z hi0 (fun σ17 y18 H locs ls hS hl h => ?_) FU _ _ _ _ _ _ hS (lv_sub hl [2, 1, 0] rfl) h
  refine lv_aload_n hx hb dX1_parts_83 rfl (lv_at hl 0 rfl) ?_
  refine h_getI Z hS cls_0 hi0 (by decide) rfl fl_X1_294_0 dX1_parts_84 h (fun x19 h => ?_)
  refine lv_istore_n (lv' := [(3, .int x19), (0, .ref (ad 0)), (1, .long y18)]) hx hb dX1_parts_87 rfl hl (by decide) rfl (fun ls hl => ?_)
  refine lv_iconst (v := (0 : Int32)) hx hb dX1_parts_88 (by decide) ?_
  refine lv_istore (lv' := [(4, .int (0 : Int32)), (3, .int x19), (0, .ref (ad 0)), (1, .long y18)]) hx hb dX1_parts_89 hl (by decide) rfl (fun ls hl => ?_)
  refine w_X1_parts_L91 Z hi0 (fun σ34 x35 H locs ls hS hl h => ?_) FU _ _ _ _ _ _ hS (lv_sub hl [2, 3, 1, 0] rfl) h
  refine lv_iconst (v := (0 : Int32)) hx hb dX1_parts_155 (by decide) ?_
  refine lv_istore (lv' := [(4, .int (0 : Int32)), (0, .ref (ad 0)), (3, .int x35)]) hx hb dX1_parts_156 hl (by decide) rfl (fun ls hl => ?_)
  refine w_X1_parts_L158 Z hi0 (fun σ47 H locs ls hS hl h => ?_) FU _ _ _ _ _ _ hS (lv_sub hl [1, 2, 0] rfl) h
  exact h_vret Z hS dX1_parts_212 h
end
theorem dX2_share_0 : decode cX2_share 0 = .ok (.iload_n 1, 1) := by decide +kernel
theorem dX2_share_1 : decode cX2_share 1 = .ok (.iload_n 2, 1) := by decide +kernel
theorem dX2_share_2 : decode cX2_share 2 = .ok (.if_icmp .lt 9, 3) := by decide +kernel
theorem dX2_share_5 : decode cX2_share 5 = .ok (.sipush 1000, 3) := by decide +kernel
theorem dX2_share_8 : decode cX2_share 8 = .ok (.goto 13, 3) := by decide +kernel
theorem dX2_share_11 : decode cX2_share 11 = .ok (.aload_n 0, 1) := by decide +kernel
theorem dX2_share_12 : decode cX2_share 12 = .ok (.getfield 9, 3) := by decide +kernel
theorem dX2_share_15 : decode cX2_share 15 = .ok (.iload_n 1, 1) := by decide +kernel
theorem dX2_share_16 : decode cX2_share 16 = .ok (.iaload, 1) := by decide +kernel
theorem dX2_share_17 : decode cX2_share 17 = .ok (.iload_n 2, 1) := by decide +kernel
theorem dX2_share_18 : decode cX2_share 18 = .ok (.iload_n 1, 1) := by decide +kernel
theorem dX2_share_19 : decode cX2_share 19 = .ok (.isub, 1) := by decide +kernel
theorem dX2_share_20 : decode cX2_share 20 = .ok (.idiv, 1) := by decide +kernel
theorem dX2_share_21 : decode cX2_share 21 = .ok (.ireturn, 1) := by decide +kernel
abbrev rm_X2_share : Room := k2_rm 0 0
section
variable {p : Program} {l : Launch} {e : Env} {s : State} {m : MethodId} {args : Array Value} {below : List Frame} {meth : Method} {c : Code} {D : gD} {A : Nat → Prop} {ad : Nat → Nat} {S : Nat → Nat × Nat} {σ : Mem}
set_option maxRecDepth 100000 in
set_option maxHeartbeats 4000000 in
theorem w_X2_share {i0 : Nat} {a1 : Int32} {a2 : Int32} (hi0 : S i0 = (11, 0)) {r : Int32} (h : f_X2_share σ i0 a1 a2 = some r) : Met l yX2_share (ws_ yX2_share cX2_share 3 (some .int)) rm_X2_share (va_Pc [.ref (ad i0), .int a1, .int a2] (PreG D (Ew D A) A ad S σ)) (QG D A ad S (some (.int r)) σ) 0 0 A := by
  refine y_met (by decide) (Nat.le_of_ble_eq_true rfl) (fun p e s m below meth c ls Z hS hl => ?_)
  have hx := Z.1
  have hb := Z.2.1
  have hown := Z.2.2.2.2.2.1
  have hts := Z.2.2.2.2.2.2.1
  unfold f_X2_share at h
  refine lv_iload_n hx hb dX2_share_0 rfl (lv_at hl 1 rfl) ?_
  refine lv_iload_n hx hb dX2_share_1 rfl (lv_at hl 2 rfl) ?_
  refine lv_icmp_lt (tgt := 11) hx hb dX2_share_2 (by decide) (fun c1 => ?_) (fun c1 => ?_)
  · have h := if_t h c1
    refine lv_aload_n hx hb dX2_share_11 rfl (lv_at hl 0 rfl) ?_
    refine h_getC (n := 1) (j := (i0 + 1)) (sh := (1, 8)) Z hS cls_1 hi0 (by decide) rfl rfl rfl fl_X2_9_1 dX2_share_12 (fun hc2 => ?_)
    refine lv_iload_n hx hb dX2_share_15 rfl (lv_at hl 1 rfl) ?_
    refine h_iald Z hS hc2 dX2_share_16 h (fun x3 h => ?_)
    refine lv_iload_n hx hb dX2_share_17 rfl (lv_at hl 2 rfl) ?_
    refine lv_iload_n hx hb dX2_share_18 rfl (lv_at hl 1 rfl) ?_
    refine lv_isub hx hb dX2_share_19 ?_
    refine h_idiv Z dX2_share_20 h (fun h => ?_)
    exact h_iret Z hS dX2_share_21 h
  · have h := if_f h c1
    refine lv_sipush (v := (1000 : Int32)) hx hb dX2_share_5 (by decide) ?_
    refine lv_goto (tgt := 21) hx hb dX2_share_8 (by decide) ?_
    exact h_iret Z hS dX2_share_21 h
end
theorem dX7_holds_0 : decode cX7_holds 0 = .ok (.iload_n 3, 1) := by decide +kernel
theorem dX7_holds_1 : decode cX7_holds 1 = .ok (.i2l, 1) := by decide +kernel
theorem dX7_holds_2 : decode cX7_holds 2 = .ok (.aload_n 1, 1) := by decide +kernel
theorem dX7_holds_3 : decode cX7_holds 3 = .ok (.iload_n 2, 1) := by decide +kernel
theorem dX7_holds_4 : decode cX7_holds 4 = .ok (.iload 4, 2) := by decide +kernel
theorem dX7_holds_6 : decode cX7_holds 6 = .ok (.invokevirtual 60, 3) := by decide +kernel
theorem dX7_holds_9 : decode cX7_holds 9 = .ok (.i2l, 1) := by decide +kernel
theorem dX7_holds_10 : decode cX7_holds 10 = .ok (.lmul, 1) := by decide +kernel
theorem dX7_holds_11 : decode cX7_holds 11 = .ok (.ldc2_w 63, 3) := by decide +kernel
theorem dX7_holds_14 : decode cX7_holds 14 = .ok (.ldiv, 1) := by decide +kernel
theorem dX7_holds_15 : decode cX7_holds 15 = .ok (.l2i, 1) := by decide +kernel
theorem dX7_holds_16 : decode cX7_holds 16 = .ok (.istore 5, 2) := by decide +kernel
theorem dX7_holds_18 : decode cX7_holds 18 = .ok (.aload_n 0, 1) := by decide +kernel
theorem dX7_holds_19 : decode cX7_holds 19 = .ok (.getfield 49, 3) := by decide +kernel
theorem dX7_holds_22 : decode cX7_holds 22 = .ok (.iload_n 2, 1) := by decide +kernel
theorem dX7_holds_23 : decode cX7_holds 23 = .ok (.dup2, 1) := by decide +kernel
theorem dX7_holds_24 : decode cX7_holds 24 = .ok (.iaload, 1) := by decide +kernel
theorem dX7_holds_25 : decode cX7_holds 25 = .ok (.iload 5, 2) := by decide +kernel
theorem dX7_holds_27 : decode cX7_holds 27 = .ok (.iadd, 1) := by decide +kernel
theorem dX7_holds_28 : decode cX7_holds 28 = .ok (.iastore, 1) := by decide +kernel
theorem dX7_holds_29 : decode cX7_holds 29 = .ok (.iload 5, 2) := by decide +kernel
theorem dX7_holds_31 : decode cX7_holds 31 = .ok (.ireturn, 1) := by decide +kernel
abbrev rm_X7_holds : Room := k2_rm 1 22
section
variable {p : Program} {l : Launch} {e : Env} {s : State} {m : MethodId} {args : Array Value} {below : List Frame} {meth : Method} {c : Code} {D : gD} {A : Nat → Prop} {ad : Nat → Nat} {S : Nat → Nat × Nat} {σ : Mem}
set_option maxRecDepth 100000 in
set_option maxHeartbeats 4000000 in
theorem w_X7_holds {i0 : Nat} {a1 : Nat} {a2 : Int32} {a3 : Int32} {a4 : Int32} (hi0 : S i0 = (14, 0)) (ha1 : S a1 = (11, 0)) {r : (Mem × Int32)} (h : f_X7_holds σ i0 a1 a2 a3 a4 = some r) : Met l yX7_holds (ws_ yX7_holds cX7_holds 6 (some .int)) rm_X7_holds (va_Pc [.ref (ad i0), .ref (ad a1), .int a2, .int a3, .int a4] (PreG D (Ew D A) A ad S σ)) (QG D A ad S (some (.int r.2)) r.1) 0 0 A := by
  refine y_met (by decide) (Nat.le_of_ble_eq_true rfl) (fun p e s m below meth c ls Z hS hl => ?_)
  have hx := Z.1
  have hb := Z.2.1
  have hown := Z.2.2.2.2.2.1
  have hts := Z.2.2.2.2.2.2.1
  unfold f_X7_holds at h
  refine lv_iload_n hx hb dX7_holds_0 rfl (lv_at hl 3 rfl) ?_
  refine lv_i2l hx hb dX7_holds_1 rfl ?_
  refine lv_aload_n hx hb dX7_holds_2 rfl (lv_at hl 1 rfl) ?_
  refine lv_iload_n hx hb dX7_holds_3 rfl (lv_at hl 2 rfl) ?_
  refine lv_iload hx hb dX7_holds_4 (lv_at hl 4 rfl) ?_
  refine h_ci hS h (fun z hz => h_rV (rest := [.long (a3).toInt64]) Z hS ha1 rfl v_X7_60 (w_X2_share ha1 hz) rfl rfl ⟨by decide, by decide⟩ rfl hl.1 rfl (Nat.le_of_ble_eq_true rfl) (Nat.zero_le _) (Nat.zero_le _) dX7_holds_6) (fun x1 H locs hS h => ?_)
  refine lv_i2l hx hb dX7_holds_9 rfl ?_
  refine lv_lmul hx hb dX7_holds_10 ?_
  refine lv_ldc2 (v := (1000 : Int64)) hx hb hown (hts _ q1020) dX7_holds_11 ?_
  refine h_ldiv Z dX7_holds_14 h (fun h => ?_)
  refine lv_l2i hx hb dX7_holds_15 rfl ?_
  refine h_leti h (fun x2 h => ?_)
  refine lv_istore (lv' := [(5, .int x2), (0, .ref (ad i0)), (1, .ref (ad a1)), (2, .int a2), (3, .int a3), (4, .int a4)]) hx hb dX7_holds_16 hl (by decide) rfl (fun ls hl => ?_)
  refine lv_aload_n hx hb dX7_holds_18 rfl (lv_at hl 1 rfl) ?_
  refine h_getC (n := 1) (j := (i0 + 1)) (sh := (1, 8)) Z hS cls_4 hi0 (by decide) rfl rfl rfl fl_X7_49_4 dX7_holds_19 (fun hc3 => ?_)
  refine lv_iload_n hx hb dX7_holds_22 rfl (lv_at hl 3 rfl) ?_
  refine lv_dup2_11 hx hb dX7_holds_23 rfl rfl ?_
  refine h_iald Z hS hc3 dX7_holds_24 h (fun x4 h => ?_)
  refine lv_iload hx hb dX7_holds_25 (lv_at hl 0 rfl) ?_
  refine lv_iadd hx hb dX7_holds_27 ?_
  refine h_iast Z hS hc3 dX7_holds_28 h (fun σ5 H locs hS h => ?_)
  refine lv_iload hx hb dX7_holds_29 (lv_at hl 0 rfl) ?_
  exact h_iretm Z hS dX7_holds_31 h
end
theorem dX3_pass_0 : decode cX3_pass 0 = .ok (.aload_n 0, 1) := by decide +kernel
theorem dX3_pass_1 : decode cX3_pass 1 = .ok (.iconst 0, 1) := by decide +kernel
theorem dX3_pass_2 : decode cX3_pass 2 = .ok (.putfield 93, 3) := by decide +kernel
theorem dX3_pass_5 : decode cX3_pass 5 = .ok (.iconst 0, 1) := by decide +kernel
theorem dX3_pass_6 : decode cX3_pass 6 = .ok (.istore_n 3, 1) := by decide +kernel
theorem dX3_pass_7 : decode cX3_pass 7 = .ok (.iload_n 3, 1) := by decide +kernel
theorem dX3_pass_8 : decode cX3_pass 8 = .ok (.aload_n 0, 1) := by decide +kernel
theorem dX3_pass_9 : decode cX3_pass 9 = .ok (.getfield 38, 3) := by decide +kernel
theorem dX3_pass_12 : decode cX3_pass 12 = .ok (.if_icmp .ge 24, 3) := by decide +kernel
theorem dX3_pass_15 : decode cX3_pass 15 = .ok (.aload_n 0, 1) := by decide +kernel
theorem dX3_pass_16 : decode cX3_pass 16 = .ok (.getfield 31, 3) := by decide +kernel
theorem dX3_pass_19 : decode cX3_pass 19 = .ok (.iload_n 3, 1) := by decide +kernel
theorem dX3_pass_20 : decode cX3_pass 20 = .ok (.aload_n 0, 1) := by decide +kernel
theorem dX3_pass_21 : decode cX3_pass 21 = .ok (.getfield 11, 3) := by decide +kernel
theorem dX3_pass_24 : decode cX3_pass 24 = .ok (.iload_n 3, 1) := by decide +kernel
theorem dX3_pass_25 : decode cX3_pass 25 = .ok (.aaload, 1) := by decide +kernel
theorem dX3_pass_26 : decode cX3_pass 26 = .ok (.invokevirtual 41, 3) := by decide +kernel
theorem dX3_pass_29 : decode cX3_pass 29 = .ok (.iastore, 1) := by decide +kernel
theorem dX3_pass_30 : decode cX3_pass 30 = .ok (.iinc 3 1, 3) := by decide +kernel
theorem dX3_pass_33 : decode cX3_pass 33 = .ok (.goto (-26), 3) := by decide +kernel
theorem dX3_pass_36 : decode cX3_pass 36 = .ok (.iconst 0, 1) := by decide +kernel
theorem dX3_pass_37 : decode cX3_pass 37 = .ok (.istore_n 3, 1) := by decide +kernel
theorem dX3_pass_38 : decode cX3_pass 38 = .ok (.iload_n 3, 1) := by decide +kernel
theorem dX3_pass_39 : decode cX3_pass 39 = .ok (.bipush 8, 2) := by decide +kernel
theorem dX3_pass_41 : decode cX3_pass 41 = .ok (.if_icmp .ge 107, 3) := by decide +kernel
theorem dX3_pass_44 : decode cX3_pass 44 = .ok (.aload_n 0, 1) := by decide +kernel
theorem dX3_pass_45 : decode cX3_pass 45 = .ok (.getfield 28, 3) := by decide +kernel
theorem dX3_pass_48 : decode cX3_pass 48 = .ok (.iload_n 3, 1) := by decide +kernel
theorem dX3_pass_49 : decode cX3_pass 49 = .ok (.iaload, 1) := by decide +kernel
theorem dX3_pass_50 : decode cX3_pass 50 = .ok (.istore 4, 2) := by decide +kernel
theorem dX3_pass_52 : decode cX3_pass 52 = .ok (.iload_n 3, 1) := by decide +kernel
theorem dX3_pass_53 : decode cX3_pass 53 = .ok (.aload_n 0, 1) := by decide +kernel
theorem dX3_pass_54 : decode cX3_pass 54 = .ok (.getfield 31, 3) := by decide +kernel
theorem dX3_pass_57 : decode cX3_pass 57 = .ok (.iconst 0, 1) := by decide +kernel
theorem dX3_pass_58 : decode cX3_pass 58 = .ok (.iaload, 1) := by decide +kernel
theorem dX3_pass_59 : decode cX3_pass 59 = .ok (.if_icmp .lt 20, 3) := by decide +kernel
theorem dX3_pass_62 : decode cX3_pass 62 = .ok (.aload_n 0, 1) := by decide +kernel
theorem dX3_pass_63 : decode cX3_pass 63 = .ok (.getfield 20, 3) := by decide +kernel
theorem dX3_pass_66 : decode cX3_pass 66 = .ok (.getfield 96, 3) := by decide +kernel
theorem dX3_pass_69 : decode cX3_pass 69 = .ok (.iload_n 3, 1) := by decide +kernel
theorem dX3_pass_70 : decode cX3_pass 70 = .ok (.dup2, 1) := by decide +kernel
theorem dX3_pass_71 : decode cX3_pass 71 = .ok (.iaload, 1) := by decide +kernel
theorem dX3_pass_72 : decode cX3_pass 72 = .ok (.iload 4, 2) := by decide +kernel
theorem dX3_pass_74 : decode cX3_pass 74 = .ok (.iadd, 1) := by decide +kernel
theorem dX3_pass_75 : decode cX3_pass 75 = .ok (.iastore, 1) := by decide +kernel
theorem dX3_pass_76 : decode cX3_pass 76 = .ok (.goto 66, 3) := by decide +kernel
theorem dX3_pass_79 : decode cX3_pass 79 = .ok (.iconst 0, 1) := by decide +kernel
theorem dX3_pass_80 : decode cX3_pass 80 = .ok (.istore 5, 2) := by decide +kernel
theorem dX3_pass_82 : decode cX3_pass 82 = .ok (.iload 5, 2) := by decide +kernel
theorem dX3_pass_84 : decode cX3_pass 84 = .ok (.aload_n 0, 1) := by decide +kernel
theorem dX3_pass_85 : decode cX3_pass 85 = .ok (.getfield 38, 3) := by decide +kernel
theorem dX3_pass_88 : decode cX3_pass 88 = .ok (.if_icmp .ge 35, 3) := by decide +kernel
theorem dX3_pass_91 : decode cX3_pass 91 = .ok (.iload 4, 2) := by decide +kernel
theorem dX3_pass_93 : decode cX3_pass 93 = .ok (.aload_n 0, 1) := by decide +kernel
theorem dX3_pass_94 : decode cX3_pass 94 = .ok (.getfield 11, 3) := by decide +kernel
theorem dX3_pass_97 : decode cX3_pass 97 = .ok (.iload 5, 2) := by decide +kernel
theorem dX3_pass_99 : decode cX3_pass 99 = .ok (.aaload, 1) := by decide +kernel
theorem dX3_pass_100 : decode cX3_pass 100 = .ok (.aload_n 1, 1) := by decide +kernel
theorem dX3_pass_101 : decode cX3_pass 101 = .ok (.iload_n 3, 1) := by decide +kernel
theorem dX3_pass_102 : decode cX3_pass 102 = .ok (.iload 4, 2) := by decide +kernel
theorem dX3_pass_104 : decode cX3_pass 104 = .ok (.aload_n 0, 1) := by decide +kernel
theorem dX3_pass_105 : decode cX3_pass 105 = .ok (.getfield 31, 3) := by decide +kernel
theorem dX3_pass_108 : decode cX3_pass 108 = .ok (.iload 5, 2) := by decide +kernel
theorem dX3_pass_110 : decode cX3_pass 110 = .ok (.iaload, 1) := by decide +kernel
theorem dX3_pass_111 : decode cX3_pass 111 = .ok (.invokevirtual 99, 3) := by decide +kernel
theorem dX3_pass_114 : decode cX3_pass 114 = .ok (.isub, 1) := by decide +kernel
theorem dX3_pass_115 : decode cX3_pass 115 = .ok (.istore 4, 2) := by decide +kernel
theorem dX3_pass_117 : decode cX3_pass 117 = .ok (.iinc 5 1, 3) := by decide +kernel
theorem dX3_pass_120 : decode cX3_pass 120 = .ok (.goto (-38), 3) := by decide +kernel
theorem dX3_pass_123 : decode cX3_pass 123 = .ok (.aload_n 2, 1) := by decide +kernel
theorem dX3_pass_124 : decode cX3_pass 124 = .ok (.iload_n 3, 1) := by decide +kernel
theorem dX3_pass_125 : decode cX3_pass 125 = .ok (.dup2, 1) := by decide +kernel
theorem dX3_pass_126 : decode cX3_pass 126 = .ok (.iaload, 1) := by decide +kernel
theorem dX3_pass_127 : decode cX3_pass 127 = .ok (.iload 4, 2) := by decide +kernel
theorem dX3_pass_129 : decode cX3_pass 129 = .ok (.iadd, 1) := by decide +kernel
theorem dX3_pass_130 : decode cX3_pass 130 = .ok (.iastore, 1) := by decide +kernel
theorem dX3_pass_131 : decode cX3_pass 131 = .ok (.aload_n 0, 1) := by decide +kernel
theorem dX3_pass_132 : decode cX3_pass 132 = .ok (.dup, 1) := by decide +kernel
theorem dX3_pass_133 : decode cX3_pass 133 = .ok (.getfield 93, 3) := by decide +kernel
theorem dX3_pass_136 : decode cX3_pass 136 = .ok (.iload 4, 2) := by decide +kernel
theorem dX3_pass_138 : decode cX3_pass 138 = .ok (.iadd, 1) := by decide +kernel
theorem dX3_pass_139 : decode cX3_pass 139 = .ok (.putfield 93, 3) := by decide +kernel
theorem dX3_pass_142 : decode cX3_pass 142 = .ok (.iinc 3 1, 3) := by decide +kernel
theorem dX3_pass_145 : decode cX3_pass 145 = .ok (.goto (-107), 3) := by decide +kernel
theorem dX3_pass_148 : decode cX3_pass 148 = .ok (.return_, 1) := by decide +kernel
abbrev rm_X3_pass : Room := k2_rm 3 63
section
variable {p : Program} {l : Launch} {e : Env} {s : State} {m : MethodId} {args : Array Value} {below : List Frame} {meth : Method} {c : Code} {D : gD} {A : Nat → Prop} {ad : Nat → Nat} {S : Nat → Nat × Nat} {σ : Mem}
set_option maxRecDepth 100000 in
set_option maxHeartbeats 4000000 in
theorem w_X3_pass_L7 (Z : Cz D (Ew D A) A cX3_pass 6 none RX3 p s m args meth c) {u0 : Nat} {u1 : Nat} {u2 : Nat} (hu0 : S u0 = (12, 0)) (hu1 : S u1 = (11, 0)) (hu2 : S u2 = (1, 8)) {r : Mem} {k36 : Mem → Option Mem}
    (hk36 : ∀ (σ : Mem)  (H : Heap) (locs : List Loc) (ls : Array Slot), St D A ad S σ s.heap H locs → lv_has ls 6 [(0, .ref (ad u0)), (1, .ref (ad u1)), (2, .ref (ad u2))] → k36 σ = some r → W p l e rm_X3_pass s m args below meth c H locs 0 0 (MQ below (QG D A ad S none r) args s 0 0 A) (F0 m 36 ls [])) :
    ∀ (n : Nat) (σ : Mem) (v3 : Int32) (H : Heap) (locs : List Loc) (ls : Array Slot), St D A ad S σ s.heap H locs → lv_has ls 6 [(0, .ref (ad u0)), (1, .ref (ad u1)), (2, .ref (ad u2)), (3, .int v3)] → f_X3_pass_L7 k36 u0 u1 u2 n σ v3 = some r → W p l e rm_X3_pass s m args below meth c H locs 0 0 (MQ below (QG D A ad S none r) args s 0 0 A) (F0 m 7 ls []) := by
  have hx := Z.1
  have hb := Z.2.1
  have hown := Z.2.2.2.2.2.1
  have hts := Z.2.2.2.2.2.2.1
  intro n
  induction n with
  | zero => intro σ v3 H locs ls hS hl h; cases h
  | succ n ih =>
    intro σ v3 H locs ls hS hl h
    unfold f_X3_pass_L7 at h
    refine lv_iload_n hx hb dX3_pass_7 rfl (lv_at hl 3 rfl) ?_
    refine lv_aload_n hx hb dX3_pass_8 rfl (lv_at hl 0 rfl) ?_
    refine h_getI Z hS cls_2 hu0 (by decide) rfl fl_X3_38_2 dX3_pass_9 h (fun x2 h => ?_)
    refine lv_icmp_ge (tgt := 36) hx hb dX3_pass_12 (by decide) (fun c3 => ?_) (fun c3 => ?_)
    · have h := if_t h c3
      exact hk36 _ _ _ _ hS (lv_sub hl [0, 1, 2] rfl) h
    · have h := if_f h c3
      refine lv_aload_n hx hb dX3_pass_15 rfl (lv_at hl 0 rfl) ?_
      refine h_getC (n := 6) (j := (u0 + 6)) (sh := (1, 10)) Z hS cls_2 hu0 (by decide) rfl rfl rfl fl_X3_31_2 dX3_pass_16 (fun hc4 => ?_)
      refine lv_iload_n hx hb dX3_pass_19 rfl (lv_at hl 3 rfl) ?_
      refine lv_aload_n hx hb dX3_pass_20 rfl (lv_at hl 0 rfl) ?_
      refine h_getC (n := 1) (j := (u0 + 1)) (sh := (6, 10)) Z hS cls_2 hu0 (by decide) rfl rfl rfl fl_X3_11_2 dX3_pass_21 (fun hc5 => ?_)
      refine lv_iload_n hx hb dX3_pass_24 rfl (lv_at hl 3 rfl) ?_
      refine h_aldN (sh := (14, 0)) Z hS hc5 (by decide) (by decide) rfl dX3_pass_25 h (fun j6 hj6 h => ?_)
      refine h_ci hS h (fun z hz => h_rV (rest := [.int v3, .ref (ad (u0 + 6))]) Z hS hj6 rfl v_X3_41 (w_X7_width hj6 hz) rfl rfl ⟨by decide, by decide⟩ rfl hl.1 rfl (Nat.le_of_ble_eq_true rfl) (Nat.zero_le _) (Nat.zero_le _) dX3_pass_26) (fun x7 H locs hS h => ?_)
      refine h_iast Z hS hc4 dX3_pass_29 h (fun σ8 H locs hS h => ?_)
      refine lv_iinc (v := (v3 + (1 : Int32))) (lv' := [(3, .int (v3 + (1 : Int32))), (0, .ref (ad u0)), (1, .ref (ad u1)), (2, .ref (ad u2))]) hx hb dX3_pass_30 hl (k := 3) rfl rfl (by decide) rfl (fun ls hl => ?_)
      refine lv_goto (tgt := 7) hx hb dX3_pass_33 (by decide) ?_
      exact ih _ _ _ _ _ hS (lv_sub hl [1, 2, 3, 0] rfl) h
set_option maxRecDepth 100000 in
set_option maxHeartbeats 4000000 in
theorem w_X3_pass_L82 (Z : Cz D (Ew D A) A cX3_pass 6 none RX3 p s m args meth c) {u0 : Nat} {u1 : Nat} {u2 : Nat} {u3 : Int32} (hu0 : S u0 = (12, 0)) (hu1 : S u1 = (11, 0)) (hu2 : S u2 = (1, 8)) {r : Mem} {k123 : Mem → Int32 → Option Mem}
    (hk123 : ∀ (σ : Mem) (w4 : Int32) (H : Heap) (locs : List Loc) (ls : Array Slot), St D A ad S σ s.heap H locs → lv_has ls 6 [(0, .ref (ad u0)), (1, .ref (ad u1)), (2, .ref (ad u2)), (3, .int u3), (4, .int w4)] → k123 σ w4 = some r → W p l e rm_X3_pass s m args below meth c H locs 0 0 (MQ below (QG D A ad S none r) args s 0 0 A) (F0 m 123 ls [])) :
    ∀ (n : Nat) (σ : Mem) (v4 : Int32) (v5 : Int32) (H : Heap) (locs : List Loc) (ls : Array Slot), St D A ad S σ s.heap H locs → lv_has ls 6 [(0, .ref (ad u0)), (1, .ref (ad u1)), (2, .ref (ad u2)), (3, .int u3), (4, .int v4), (5, .int v5)] → f_X3_pass_L82 k123 u0 u1 u2 u3 n σ v4 v5 = some r → W p l e rm_X3_pass s m args below meth c H locs 0 0 (MQ below (QG D A ad S none r) args s 0 0 A) (F0 m 82 ls []) := by
  have hx := Z.1
  have hb := Z.2.1
  have hown := Z.2.2.2.2.2.1
  have hts := Z.2.2.2.2.2.2.1
  intro n
  induction n with
  | zero => intro σ v4 v5 H locs ls hS hl h; cases h
  | succ n ih =>
    intro σ v4 v5 H locs ls hS hl h
    unfold f_X3_pass_L82 at h
    refine lv_iload hx hb dX3_pass_82 (lv_at hl 5 rfl) ?_
    refine lv_aload_n hx hb dX3_pass_84 rfl (lv_at hl 0 rfl) ?_
    refine h_getI Z hS cls_2 hu0 (by decide) rfl fl_X3_38_2 dX3_pass_85 h (fun x16 h => ?_)
    refine lv_icmp_ge (tgt := 123) hx hb dX3_pass_88 (by decide) (fun c17 => ?_) (fun c17 => ?_)
    · have h := if_t h c17
      exact hk123 _ _ _ _ _ hS (lv_sub hl [0, 1, 2, 3, 4] rfl) h
    · have h := if_f h c17
      refine lv_iload hx hb dX3_pass_91 (lv_at hl 4 rfl) ?_
      refine lv_aload_n hx hb dX3_pass_93 rfl (lv_at hl 0 rfl) ?_
      refine h_getC (n := 1) (j := (u0 + 1)) (sh := (6, 10)) Z hS cls_2 hu0 (by decide) rfl rfl rfl fl_X3_11_2 dX3_pass_94 (fun hc18 => ?_)
      refine lv_iload hx hb dX3_pass_97 (lv_at hl 5 rfl) ?_
      refine h_aldN (sh := (14, 0)) Z hS hc18 (by decide) (by decide) rfl dX3_pass_99 h (fun j19 hj19 h => ?_)
      refine lv_aload_n hx hb dX3_pass_100 rfl (lv_at hl 1 rfl) ?_
      refine lv_iload_n hx hb dX3_pass_101 rfl (lv_at hl 3 rfl) ?_
      refine lv_iload hx hb dX3_pass_102 (lv_at hl 4 rfl) ?_
      refine lv_aload_n hx hb dX3_pass_104 rfl (lv_at hl 0 rfl) ?_
      refine h_getC (n := 6) (j := (u0 + 6)) (sh := (1, 10)) Z hS cls_2 hu0 (by decide) rfl rfl rfl fl_X3_31_2 dX3_pass_105 (fun hc20 => ?_)
      refine lv_iload hx hb dX3_pass_108 (lv_at hl 5 rfl) ?_
      refine h_iald Z hS hc20 dX3_pass_110 h (fun x21 h => ?_)
      refine h_cim hS h (fun z hz => h_rV (rest := [.int v4]) Z hS hj19 rfl v_X3_99 (w_X7_holds hj19 hu1 hz) rfl rfl ⟨by decide, by decide⟩ rfl hl.1 rfl (Nat.le_of_ble_eq_true rfl) (Nat.zero_le _) (Nat.zero_le _) dX3_pass_111) (fun σ22 x23 H locs hS h => ?_)
      refine lv_isub hx hb dX3_pass_114 ?_
      refine h_leti h (fun x24 h => ?_)
      refine lv_istore (lv' := [(4, .int x24), (0, .ref (ad u0)), (1, .ref (ad u1)), (2, .ref (ad u2)), (3, .int u3), (5, .int v5)]) hx hb dX3_pass_115 hl (by decide) rfl (fun ls hl => ?_)
      refine lv_iinc (v := (v5 + (1 : Int32))) (lv' := [(5, .int (v5 + (1 : Int32))), (4, .int x24), (0, .ref (ad u0)), (1, .ref (ad u1)), (2, .ref (ad u2)), (3, .int u3)]) hx hb dX3_pass_117 hl (k := 5) rfl rfl (by decide) rfl (fun ls hl => ?_)
      refine lv_goto (tgt := 82) hx hb dX3_pass_120 (by decide) ?_
      exact ih _ _ _ _ _ _ hS (lv_sub hl [2, 3, 4, 5, 1, 0] rfl) h
set_option maxRecDepth 100000 in
set_option maxHeartbeats 4000000 in
theorem w_X3_pass_L38 (Z : Cz D (Ew D A) A cX3_pass 6 none RX3 p s m args meth c) {u0 : Nat} {u1 : Nat} {u2 : Nat} (hu0 : S u0 = (12, 0)) (hu1 : S u1 = (11, 0)) (hu2 : S u2 = (1, 8)) {r : Mem} {k148 : Mem → Option Mem}
    (hk148 : ∀ (σ : Mem)  (H : Heap) (locs : List Loc) (ls : Array Slot), St D A ad S σ s.heap H locs → lv_has ls 6 [] → k148 σ = some r → W p l e rm_X3_pass s m args below meth c H locs 0 0 (MQ below (QG D A ad S none r) args s 0 0 A) (F0 m 148 ls [])) :
    ∀ (n : Nat) (σ : Mem) (v3 : Int32) (H : Heap) (locs : List Loc) (ls : Array Slot), St D A ad S σ s.heap H locs → lv_has ls 6 [(0, .ref (ad u0)), (1, .ref (ad u1)), (2, .ref (ad u2)), (3, .int v3)] → f_X3_pass_L38 k148 u0 u1 u2 n σ v3 = some r → W p l e rm_X3_pass s m args below meth c H locs 0 0 (MQ below (QG D A ad S none r) args s 0 0 A) (F0 m 38 ls []) := by
  have hx := Z.1
  have hb := Z.2.1
  have hown := Z.2.2.2.2.2.1
  have hts := Z.2.2.2.2.2.2.1
  intro n
  induction n with
  | zero => intro σ v3 H locs ls hS hl h; cases h
  | succ n ih =>
    intro σ v3 H locs ls hS hl h
    unfold f_X3_pass_L38 at h
    refine lv_iload_n hx hb dX3_pass_38 rfl (lv_at hl 3 rfl) ?_
    refine lv_bipush (v := (8 : Int32)) hx hb dX3_pass_39 (by decide) ?_
    refine lv_icmp_ge (tgt := 148) hx hb dX3_pass_41 (by decide) (fun c10 => ?_) (fun c10 => ?_)
    · have h := if_t h c10
      exact hk148 _ _ _ _ hS (lv_sub hl [] rfl) h
    · have h := if_f h c10
      refine lv_aload_n hx hb dX3_pass_44 rfl (lv_at hl 0 rfl) ?_
      refine h_getC (n := 5) (j := (u0 + 5)) (sh := (1, 8)) Z hS cls_2 hu0 (by decide) rfl rfl rfl fl_X3_28_2 dX3_pass_45 (fun hc11 => ?_)
      refine lv_iload_n hx hb dX3_pass_48 rfl (lv_at hl 3 rfl) ?_
      refine h_iald Z hS hc11 dX3_pass_49 h (fun x12 h => ?_)
      refine lv_istore (lv' := [(4, .int x12), (0, .ref (ad u0)), (1, .ref (ad u1)), (2, .ref (ad u2)), (3, .int v3)]) hx hb dX3_pass_50 hl (by decide) rfl (fun ls hl => ?_)
      refine lv_iload_n hx hb dX3_pass_52 rfl (lv_at hl 4 rfl) ?_
      refine lv_aload_n hx hb dX3_pass_53 rfl (lv_at hl 1 rfl) ?_
      refine h_getC (n := 6) (j := (u0 + 6)) (sh := (1, 10)) Z hS cls_2 hu0 (by decide) rfl rfl rfl fl_X3_31_2 dX3_pass_54 (fun hc13 => ?_)
      refine lv_iconst (v := (0 : Int32)) hx hb dX3_pass_57 (by decide) ?_
      refine h_iald Z hS hc13 dX3_pass_58 h (fun x14 h => ?_)
      refine lv_icmp_lt (tgt := 79) hx hb dX3_pass_59 (by decide) (fun c15 => ?_) (fun c15 => ?_)
      · have h := if_t h c15
        refine lv_iconst (v := (0 : Int32)) hx hb dX3_pass_79 (by decide) ?_
        refine lv_istore (lv' := [(5, .int (0 : Int32)), (4, .int x12), (0, .ref (ad u0)), (1, .ref (ad u1)), (2, .ref (ad u2)), (3, .int v3)]) hx hb dX3_pass_80 hl (by decide) rfl (fun ls hl => ?_)
        refine w_X3_pass_L82 Z hu0 hu1 hu2 (fun σ25 x26 H locs ls hS hl h => ?_) FU _ _ _ _ _ _ hS (lv_sub hl [2, 3, 4, 5, 1, 0] rfl) h
        refine lv_aload_n hx hb dX3_pass_123 rfl (lv_at hl 2 rfl) ?_
        refine lv_iload_n hx hb dX3_pass_124 rfl (lv_at hl 3 rfl) ?_
        refine lv_dup2_11 hx hb dX3_pass_125 rfl rfl ?_
        refine h_iald Z hS hu2 dX3_pass_126 h (fun x27 h => ?_)
        refine lv_iload hx hb dX3_pass_127 (lv_at hl 4 rfl) ?_
        refine lv_iadd hx hb dX3_pass_129 ?_
        refine h_iast Z hS hu2 dX3_pass_130 h (fun σ28 H locs hS h => ?_)
        refine lv_aload_n hx hb dX3_pass_131 rfl (lv_at hl 0 rfl) ?_
        refine lv_dup hx hb dX3_pass_132 rfl ?_
        refine h_getI Z hS cls_2 hu0 (by decide) rfl fl_X3_93_2 dX3_pass_133 h (fun x29 h => ?_)
        refine lv_iload hx hb dX3_pass_136 (lv_at hl 4 rfl) ?_
        refine lv_iadd hx hb dX3_pass_138 ?_
        refine h_putI Z hS cls_2 hu0 (by decide) rfl rfl rfl fl_X3_93_2 dX3_pass_139 h (fun σ30 H locs hS h => ?_)
        refine lv_iinc (v := (v3 + (1 : Int32))) (lv' := [(3, .int (v3 + (1 : Int32))), (0, .ref (ad u0)), (1, .ref (ad u1)), (2, .ref (ad u2)), (4, .int x26)]) hx hb dX3_pass_142 hl (k := 3) rfl rfl (by decide) rfl (fun ls hl => ?_)
        refine lv_goto (tgt := 38) hx hb dX3_pass_145 (by decide) ?_
        exact ih _ _ _ _ _ hS (lv_sub hl [1, 2, 3, 0] rfl) h
      · have h := if_f h c15
        refine lv_aload_n hx hb dX3_pass_62 rfl (lv_at hl 1 rfl) ?_
        refine h_getC (n := 2) (j := (u0 + 2)) (sh := (13, 0)) Z hS cls_2 hu0 (by decide) rfl rfl rfl fl_X3_20_2 dX3_pass_63 (fun hc31 => ?_)
        refine h_getC (n := 1) (j := ((u0 + 2) + 1)) (sh := (1, 8)) Z hS cls_3 hc31 (by decide) rfl rfl rfl fl_X3_96_3 dX3_pass_66 (fun hc32 => ?_)
        refine lv_iload_n hx hb dX3_pass_69 rfl (lv_at hl 4 rfl) ?_
        refine lv_dup2_11 hx hb dX3_pass_70 rfl rfl ?_
        refine h_iald Z hS hc32 dX3_pass_71 h (fun x33 h => ?_)
        refine lv_iload hx hb dX3_pass_72 (lv_at hl 0 rfl) ?_
        refine lv_iadd hx hb dX3_pass_74 ?_
        refine h_iast Z hS hc32 dX3_pass_75 h (fun σ34 H locs hS h => ?_)
        refine lv_goto (tgt := 142) hx hb dX3_pass_76 (by decide) ?_
        refine lv_iinc (v := (v3 + (1 : Int32))) (lv' := [(3, .int (v3 + (1 : Int32))), (4, .int x12), (0, .ref (ad u0)), (1, .ref (ad u1)), (2, .ref (ad u2))]) hx hb dX3_pass_142 hl (k := 4) rfl rfl (by decide) rfl (fun ls hl => ?_)
        refine lv_goto (tgt := 38) hx hb dX3_pass_145 (by decide) ?_
        exact ih _ _ _ _ _ hS (lv_sub hl [2, 3, 4, 0] rfl) h
set_option maxRecDepth 100000 in
set_option maxHeartbeats 4000000 in
theorem w_X3_pass {i0 : Nat} {a1 : Nat} {a2 : Nat} (hi0 : S i0 = (12, 0)) (ha1 : S a1 = (11, 0)) (ha2 : S a2 = (1, 8)) {r : Mem} (h : f_X3_pass σ i0 a1 a2 = some r) : Met l yX3_pass (ws_ yX3_pass cX3_pass 6 none) rm_X3_pass (va_Pc [.ref (ad i0), .ref (ad a1), .ref (ad a2)] (PreG D (Ew D A) A ad S σ)) (QG D A ad S none r) 0 0 A := by
  refine y_met (by decide) (Nat.le_of_ble_eq_true rfl) (fun p e s m below meth c ls Z hS hl => ?_)
  have hx := Z.1
  have hb := Z.2.1
  have hown := Z.2.2.2.2.2.1
  have hts := Z.2.2.2.2.2.2.1
  unfold f_X3_pass at h
  refine lv_aload_n hx hb dX3_pass_0 rfl (lv_at hl 0 rfl) ?_
  refine lv_iconst (v := (0 : Int32)) hx hb dX3_pass_1 (by decide) ?_
  refine h_putI Z hS cls_2 hi0 (by decide) rfl rfl rfl fl_X3_93_2 dX3_pass_2 h (fun σ1 H locs hS h => ?_)
  refine lv_iconst (v := (0 : Int32)) hx hb dX3_pass_5 (by decide) ?_
  refine lv_istore_n (lv' := [(3, .int (0 : Int32)), (0, .ref (ad i0)), (1, .ref (ad a1)), (2, .ref (ad a2))]) hx hb dX3_pass_6 rfl hl (by decide) rfl (fun ls hl => ?_)
  refine w_X3_pass_L7 Z hi0 ha1 ha2 (fun σ9 H locs ls hS hl h => ?_) FU _ _ _ _ _ hS (lv_sub hl [1, 2, 3, 0] rfl) h
  refine lv_iconst (v := (0 : Int32)) hx hb dX3_pass_36 (by decide) ?_
  refine lv_istore_n (lv' := [(3, .int (0 : Int32)), (0, .ref (ad i0)), (1, .ref (ad a1)), (2, .ref (ad a2))]) hx hb dX3_pass_37 rfl hl (by decide) rfl (fun ls hl => ?_)
  refine w_X3_pass_L38 Z hi0 ha1 ha2 (fun σ35 H locs ls hS hl h => ?_) FU _ _ _ _ _ hS (lv_sub hl [1, 2, 3, 0] rfl) h
  exact h_vret Z hS dX3_pass_148 h
end
theorem dX3_comes_0 : decode cX3_comes 0 = .ok (.iconst 0, 1) := by decide +kernel
theorem dX3_comes_1 : decode cX3_comes 1 = .ok (.istore_n 1, 1) := by decide +kernel
theorem dX3_comes_2 : decode cX3_comes 2 = .ok (.iconst 0, 1) := by decide +kernel
theorem dX3_comes_3 : decode cX3_comes 3 = .ok (.istore_n 2, 1) := by decide +kernel
theorem dX3_comes_4 : decode cX3_comes 4 = .ok (.iload_n 2, 1) := by decide +kernel
theorem dX3_comes_5 : decode cX3_comes 5 = .ok (.bipush 8, 2) := by decide +kernel
theorem dX3_comes_7 : decode cX3_comes 7 = .ok (.if_icmp .ge 18, 3) := by decide +kernel
theorem dX3_comes_10 : decode cX3_comes 10 = .ok (.iload_n 1, 1) := by decide +kernel
theorem dX3_comes_11 : decode cX3_comes 11 = .ok (.aload_n 0, 1) := by decide +kernel
theorem dX3_comes_12 : decode cX3_comes 12 = .ok (.getfield 28, 3) := by decide +kernel
theorem dX3_comes_15 : decode cX3_comes 15 = .ok (.iload_n 2, 1) := by decide +kernel
theorem dX3_comes_16 : decode cX3_comes 16 = .ok (.iaload, 1) := by decide +kernel
theorem dX3_comes_17 : decode cX3_comes 17 = .ok (.iadd, 1) := by decide +kernel
theorem dX3_comes_18 : decode cX3_comes 18 = .ok (.istore_n 1, 1) := by decide +kernel
theorem dX3_comes_19 : decode cX3_comes 19 = .ok (.iinc 2 1, 3) := by decide +kernel
theorem dX3_comes_22 : decode cX3_comes 22 = .ok (.goto (-18), 3) := by decide +kernel
theorem dX3_comes_25 : decode cX3_comes 25 = .ok (.iload_n 1, 1) := by decide +kernel
theorem dX3_comes_26 : decode cX3_comes 26 = .ok (.ireturn, 1) := by decide +kernel
abbrev rm_X3_comes : Room := k2_rm 0 0
section
variable {p : Program} {l : Launch} {e : Env} {s : State} {m : MethodId} {args : Array Value} {below : List Frame} {meth : Method} {c : Code} {D : gD} {A : Nat → Prop} {ad : Nat → Nat} {S : Nat → Nat × Nat} {σ : Mem}
set_option maxRecDepth 100000 in
set_option maxHeartbeats 4000000 in
theorem w_X3_comes_L4 (Z : Cz D (Ew D A) A cX3_comes 3 (some .int) RX3 p s m args meth c) {u0 : Nat} (hu0 : S u0 = (12, 0)) {r : Int32} {k25 : Int32 → Option Int32}
    (hk25 : ∀ (w1 : Int32) (H : Heap) (locs : List Loc) (ls : Array Slot), St D A ad S σ s.heap H locs → lv_has ls 3 [(1, .int w1)] → k25 w1 = some r → W p l e rm_X3_comes s m args below meth c H locs 0 0 (MQ below (QG D A ad S (some (.int r)) σ) args s 0 0 A) (F0 m 25 ls [])) :
    ∀ (n : Nat) (v1 : Int32) (v2 : Int32) (H : Heap) (locs : List Loc) (ls : Array Slot), St D A ad S σ s.heap H locs → lv_has ls 3 [(0, .ref (ad u0)), (1, .int v1), (2, .int v2)] → f_X3_comes_L4 k25 σ u0 n v1 v2 = some r → W p l e rm_X3_comes s m args below meth c H locs 0 0 (MQ below (QG D A ad S (some (.int r)) σ) args s 0 0 A) (F0 m 4 ls []) := by
  have hx := Z.1
  have hb := Z.2.1
  have hown := Z.2.2.2.2.2.1
  have hts := Z.2.2.2.2.2.2.1
  intro n
  induction n with
  | zero => intro v1 v2 H locs ls hS hl h; cases h
  | succ n ih =>
    intro v1 v2 H locs ls hS hl h
    unfold f_X3_comes_L4 at h
    refine lv_iload_n hx hb dX3_comes_4 rfl (lv_at hl 2 rfl) ?_
    refine lv_bipush (v := (8 : Int32)) hx hb dX3_comes_5 (by decide) ?_
    refine lv_icmp_ge (tgt := 25) hx hb dX3_comes_7 (by decide) (fun c1 => ?_) (fun c1 => ?_)
    · have h := if_t h c1
      exact hk25 _ _ _ _ hS (lv_sub hl [1] rfl) h
    · have h := if_f h c1
      refine lv_iload_n hx hb dX3_comes_10 rfl (lv_at hl 1 rfl) ?_
      refine lv_aload_n hx hb dX3_comes_11 rfl (lv_at hl 0 rfl) ?_
      refine h_getC (n := 5) (j := (u0 + 5)) (sh := (1, 8)) Z hS cls_2 hu0 (by decide) rfl rfl rfl fl_X3_28_2 dX3_comes_12 (fun hc2 => ?_)
      refine lv_iload_n hx hb dX3_comes_15 rfl (lv_at hl 2 rfl) ?_
      refine h_iald Z hS hc2 dX3_comes_16 h (fun x3 h => ?_)
      refine lv_iadd hx hb dX3_comes_17 ?_
      refine h_leti h (fun x4 h => ?_)
      refine lv_istore_n (lv' := [(1, .int x4), (0, .ref (ad u0)), (2, .int v2)]) hx hb dX3_comes_18 rfl hl (by decide) rfl (fun ls hl => ?_)
      refine lv_iinc (v := (v2 + (1 : Int32))) (lv' := [(2, .int (v2 + (1 : Int32))), (1, .int x4), (0, .ref (ad u0))]) hx hb dX3_comes_19 hl (k := 2) rfl rfl (by decide) rfl (fun ls hl => ?_)
      refine lv_goto (tgt := 4) hx hb dX3_comes_22 (by decide) ?_
      exact ih _ _ _ _ _ hS (lv_sub hl [2, 1, 0] rfl) h
set_option maxRecDepth 100000 in
set_option maxHeartbeats 4000000 in
theorem w_X3_comes {i0 : Nat} (hi0 : S i0 = (12, 0)) {r : Int32} (h : f_X3_comes σ i0 = some r) : Met l yX3_comes (ws_ yX3_comes cX3_comes 3 (some .int)) rm_X3_comes (va_Pc [.ref (ad i0)] (PreG D (Ew D A) A ad S σ)) (QG D A ad S (some (.int r)) σ) 0 0 A := by
  refine y_met (by decide) (Nat.le_of_ble_eq_true rfl) (fun p e s m below meth c ls Z hS hl => ?_)
  have hx := Z.1
  have hb := Z.2.1
  have hown := Z.2.2.2.2.2.1
  have hts := Z.2.2.2.2.2.2.1
  unfold f_X3_comes at h
  refine lv_iconst (v := (0 : Int32)) hx hb dX3_comes_0 (by decide) ?_
  refine lv_istore_n (lv' := [(1, .int (0 : Int32)), (0, .ref (ad i0))]) hx hb dX3_comes_1 rfl hl (by decide) rfl (fun ls hl => ?_)
  refine lv_iconst (v := (0 : Int32)) hx hb dX3_comes_2 (by decide) ?_
  refine lv_istore_n (lv' := [(2, .int (0 : Int32)), (1, .int (0 : Int32)), (0, .ref (ad i0))]) hx hb dX3_comes_3 rfl hl (by decide) rfl (fun ls hl => ?_)
  refine w_X3_comes_L4 Z hi0 (fun x5 H locs ls hS hl h => ?_) FU _ _ _ _ _ hS (lv_sub hl [2, 1, 0] rfl) h
  refine lv_iload_n hx hb dX3_comes_25 rfl (lv_at hl 0 rfl) ?_
  exact h_iret Z hS dX3_comes_26 h
end
theorem dX1_goes_0 : decode cX1_goes 0 = .ok (.aload_n 1, 1) := by decide +kernel
theorem dX1_goes_1 : decode cX1_goes 1 = .ok (.aload_n 1, 1) := by decide +kernel
theorem dX1_goes_2 : decode cX1_goes 2 = .ok (.getfield 216, 3) := by decide +kernel
theorem dX1_goes_5 : decode cX1_goes 5 = .ok (.invokevirtual 225, 3) := by decide +kernel
theorem dX1_goes_8 : decode cX1_goes 8 = .ok (.istore_n 2, 1) := by decide +kernel
theorem dX1_goes_9 : decode cX1_goes 9 = .ok (.iload_n 2, 1) := by decide +kernel
theorem dX1_goes_10 : decode cX1_goes 10 = .ok (.iconst (-1), 1) := by decide +kernel
theorem dX1_goes_11 : decode cX1_goes 11 = .ok (.if_icmp .ne 38, 3) := by decide +kernel
theorem dX1_goes_14 : decode cX1_goes 14 = .ok (.aload_n 1, 1) := by decide +kernel
theorem dX1_goes_15 : decode cX1_goes 15 = .ok (.iconst 4, 1) := by decide +kernel
theorem dX1_goes_16 : decode cX1_goes 16 = .ok (.putfield 193, 3) := by decide +kernel
theorem dX1_goes_19 : decode cX1_goes 19 = .ok (.iconst 0, 1) := by decide +kernel
theorem dX1_goes_20 : decode cX1_goes 20 = .ok (.istore_n 3, 1) := by decide +kernel
theorem dX1_goes_21 : decode cX1_goes 21 = .ok (.iload_n 3, 1) := by decide +kernel
theorem dX1_goes_22 : decode cX1_goes 22 = .ok (.bipush 8, 2) := by decide +kernel
theorem dX1_goes_24 : decode cX1_goes 24 = .ok (.if_icmp .ge 24, 3) := by decide +kernel
theorem dX1_goes_27 : decode cX1_goes 27 = .ok (.aload_n 0, 1) := by decide +kernel
theorem dX1_goes_28 : decode cX1_goes 28 = .ok (.getfield 66, 3) := by decide +kernel
theorem dX1_goes_31 : decode cX1_goes 31 = .ok (.iload_n 3, 1) := by decide +kernel
theorem dX1_goes_32 : decode cX1_goes 32 = .ok (.dup2, 1) := by decide +kernel
theorem dX1_goes_33 : decode cX1_goes 33 = .ok (.iaload, 1) := by decide +kernel
theorem dX1_goes_34 : decode cX1_goes 34 = .ok (.aload_n 1, 1) := by decide +kernel
theorem dX1_goes_35 : decode cX1_goes 35 = .ok (.getfield 330, 3) := by decide +kernel
theorem dX1_goes_38 : decode cX1_goes 38 = .ok (.iload_n 3, 1) := by decide +kernel
theorem dX1_goes_39 : decode cX1_goes 39 = .ok (.iaload, 1) := by decide +kernel
theorem dX1_goes_40 : decode cX1_goes 40 = .ok (.iadd, 1) := by decide +kernel
theorem dX1_goes_41 : decode cX1_goes 41 = .ok (.iastore, 1) := by decide +kernel
theorem dX1_goes_42 : decode cX1_goes 42 = .ok (.iinc 3 1, 3) := by decide +kernel
theorem dX1_goes_45 : decode cX1_goes 45 = .ok (.goto (-24), 3) := by decide +kernel
theorem dX1_goes_48 : decode cX1_goes 48 = .ok (.return_, 1) := by decide +kernel
theorem dX1_goes_49 : decode cX1_goes 49 = .ok (.aload_n 1, 1) := by decide +kernel
theorem dX1_goes_50 : decode cX1_goes 50 = .ok (.iload_n 2, 1) := by decide +kernel
theorem dX1_goes_51 : decode cX1_goes 51 = .ok (.putfield 219, 3) := by decide +kernel
theorem dX1_goes_54 : decode cX1_goes 54 = .ok (.aload_n 1, 1) := by decide +kernel
theorem dX1_goes_55 : decode cX1_goes 55 = .ok (.aload_n 0, 1) := by decide +kernel
theorem dX1_goes_56 : decode cX1_goes 56 = .ok (.getfield 18, 3) := by decide +kernel
theorem dX1_goes_59 : decode cX1_goes 59 = .ok (.aload_n 0, 1) := by decide +kernel
theorem dX1_goes_60 : decode cX1_goes 60 = .ok (.getfield 63, 3) := by decide +kernel
theorem dX1_goes_63 : decode cX1_goes 63 = .ok (.invokevirtual 341, 3) := by decide +kernel
theorem dX1_goes_66 : decode cX1_goes 66 = .ok (.aload_n 1, 1) := by decide +kernel
theorem dX1_goes_67 : decode cX1_goes 67 = .ok (.invokevirtual 345, 3) := by decide +kernel
theorem dX1_goes_70 : decode cX1_goes 70 = .ok (.ifCond .eq 22, 3) := by decide +kernel
theorem dX1_goes_73 : decode cX1_goes 73 = .ok (.aload_n 1, 1) := by decide +kernel
theorem dX1_goes_74 : decode cX1_goes 74 = .ok (.getfield 347, 3) := by decide +kernel
theorem dX1_goes_77 : decode cX1_goes 77 = .ok (.iconst (-1), 1) := by decide +kernel
theorem dX1_goes_78 : decode cX1_goes 78 = .ok (.if_icmp .eq 15, 3) := by decide +kernel
theorem dX1_goes_81 : decode cX1_goes 81 = .ok (.aload_n 1, 1) := by decide +kernel
theorem dX1_goes_82 : decode cX1_goes 82 = .ok (.getfield 222, 3) := by decide +kernel
theorem dX1_goes_85 : decode cX1_goes 85 = .ok (.aload_n 1, 1) := by decide +kernel
theorem dX1_goes_86 : decode cX1_goes 86 = .ok (.getfield 350, 3) := by decide +kernel
theorem dX1_goes_89 : decode cX1_goes 89 = .ok (.if_icmp .lt 4, 3) := by decide +kernel
theorem dX1_goes_92 : decode cX1_goes 92 = .ok (.return_, 1) := by decide +kernel
theorem dX1_goes_93 : decode cX1_goes 93 = .ok (.aload_n 1, 1) := by decide +kernel
theorem dX1_goes_94 : decode cX1_goes 94 = .ok (.aload_n 0, 1) := by decide +kernel
theorem dX1_goes_95 : decode cX1_goes 95 = .ok (.getfield 299, 3) := by decide +kernel
theorem dX1_goes_98 : decode cX1_goes 98 = .ok (.putfield 347, 3) := by decide +kernel
theorem dX1_goes_101 : decode cX1_goes 101 = .ok (.aload_n 1, 1) := by decide +kernel
theorem dX1_goes_102 : decode cX1_goes 102 = .ok (.aload_n 1, 1) := by decide +kernel
theorem dX1_goes_103 : decode cX1_goes 103 = .ok (.getfield 222, 3) := by decide +kernel
theorem dX1_goes_106 : decode cX1_goes 106 = .ok (.putfield 350, 3) := by decide +kernel
theorem dX1_goes_109 : decode cX1_goes 109 = .ok (.return_, 1) := by decide +kernel
abbrev rm_X1_goes : Room := k2_rm 6 132
section
variable {p : Program} {l : Launch} {e : Env} {s : State} {m : MethodId} {args : Array Value} {below : List Frame} {meth : Method} {c : Code} {D : gD} {A : Nat → Prop} {ad : Nat → Nat} {S : Nat → Nat × Nat} {σ : Mem}
set_option maxRecDepth 100000 in
set_option maxHeartbeats 4000000 in
theorem w_X1_goes_L21 (Z : Cz D (Ew D A) A cX1_goes 4 none RX1 p s m args meth c) {u1 : Nat} (hu0 : S 0 = (10, 0)) (hu1 : S u1 = (12, 0)) {r : Mem} {k48 : Mem → Option Mem}
    (hk48 : ∀ (σ : Mem)  (H : Heap) (locs : List Loc) (ls : Array Slot), St D A ad S σ s.heap H locs → lv_has ls 4 [] → k48 σ = some r → W p l e rm_X1_goes s m args below meth c H locs 0 0 (MQ below (QG D A ad S none r) args s 0 0 A) (F0 m 48 ls [])) :
    ∀ (n : Nat) (σ : Mem) (v3 : Int32) (H : Heap) (locs : List Loc) (ls : Array Slot), St D A ad S σ s.heap H locs → lv_has ls 4 [(0, .ref (ad 0)), (1, .ref (ad u1)), (3, .int v3)] → f_X1_goes_L21 k48 u1 n σ v3 = some r → W p l e rm_X1_goes s m args below meth c H locs 0 0 (MQ below (QG D A ad S none r) args s 0 0 A) (F0 m 21 ls []) := by
  have hx := Z.1
  have hb := Z.2.1
  have hown := Z.2.2.2.2.2.1
  have hts := Z.2.2.2.2.2.2.1
  intro n
  induction n with
  | zero => intro σ v3 H locs ls hS hl h; cases h
  | succ n ih =>
    intro σ v3 H locs ls hS hl h
    unfold f_X1_goes_L21 at h
    refine lv_iload_n hx hb dX1_goes_21 rfl (lv_at hl 2 rfl) ?_
    refine lv_bipush (v := (8 : Int32)) hx hb dX1_goes_22 (by decide) ?_
    refine lv_icmp_ge (tgt := 48) hx hb dX1_goes_24 (by decide) (fun c5 => ?_) (fun c5 => ?_)
    · have h := if_t h c5
      exact hk48 _ _ _ _ hS (lv_sub hl [] rfl) h
    · have h := if_f h c5
      refine lv_aload_n hx hb dX1_goes_27 rfl (lv_at hl 0 rfl) ?_
      refine h_getC (n := 18) (j := 18) (sh := (1, 8)) Z hS cls_0 hu0 (by decide) rfl rfl rfl fl_X1_66_0 dX1_goes_28 (fun hc6 => ?_)
      refine lv_iload_n hx hb dX1_goes_31 rfl (lv_at hl 2 rfl) ?_
      refine lv_dup2_11 hx hb dX1_goes_32 rfl rfl ?_
      refine h_iald Z hS hc6 dX1_goes_33 h (fun x7 h => ?_)
      refine lv_aload_n hx hb dX1_goes_34 rfl (lv_at hl 1 rfl) ?_
      refine h_getC (n := 5) (j := (u1 + 5)) (sh := (1, 8)) Z hS cls_2 hu1 (by decide) rfl rfl rfl fl_X1_330_2 dX1_goes_35 (fun hc8 => ?_)
      refine lv_iload_n hx hb dX1_goes_38 rfl (lv_at hl 2 rfl) ?_
      refine h_iald Z hS hc8 dX1_goes_39 h (fun x9 h => ?_)
      refine lv_iadd hx hb dX1_goes_40 ?_
      refine h_iast Z hS hc6 dX1_goes_41 h (fun σ10 H locs hS h => ?_)
      refine lv_iinc (v := (v3 + (1 : Int32))) (lv' := [(3, .int (v3 + (1 : Int32))), (0, .ref (ad 0)), (1, .ref (ad u1))]) hx hb dX1_goes_42 hl (k := 2) rfl rfl (by decide) rfl (fun ls hl => ?_)
      refine lv_goto (tgt := 21) hx hb dX1_goes_45 (by decide) ?_
      exact ih _ _ _ _ _ hS (lv_sub hl [1, 2, 0] rfl) h
set_option maxRecDepth 100000 in
set_option maxHeartbeats 4000000 in
theorem w_X1_goes {a1 : Nat} (hi0 : S 0 = (10, 0)) (ha1 : S a1 = (12, 0)) {r : Mem} (h : f_X1_goes σ a1 = some r) : Met l yX1_goes (ws_ yX1_goes cX1_goes 4 none) rm_X1_goes (va_Pc [.ref (ad 0), .ref (ad a1)] (PreG D (Ew D A) A ad S σ)) (QG D A ad S none r) 0 0 A := by
  refine y_met (by decide) (Nat.le_of_ble_eq_true rfl) (fun p e s m below meth c ls Z hS hl => ?_)
  have hx := Z.1
  have hb := Z.2.1
  have hown := Z.2.2.2.2.2.1
  have hts := Z.2.2.2.2.2.2.1
  unfold f_X1_goes at h
  refine lv_aload_n hx hb dX1_goes_0 rfl (lv_at hl 1 rfl) ?_
  refine lv_aload_n hx hb dX1_goes_1 rfl (lv_at hl 1 rfl) ?_
  refine h_getI Z hS cls_2 ha1 (by decide) rfl fl_X1_216_2 dX1_goes_2 h (fun x1 h => ?_)
  refine h_ci hS h (fun z hz => h_rV (rest := []) Z hS ha1 rfl v_X1_225 (w_X3_pushWith ha1 hz) rfl rfl ⟨by decide, by decide⟩ rfl hl.1 rfl (Nat.le_of_ble_eq_true rfl) (Nat.zero_le _) (Nat.zero_le _) dX1_goes_5) (fun x2 H locs hS h => ?_)
  refine lv_istore_n (lv' := [(2, .int x2), (0, .ref (ad 0)), (1, .ref (ad a1))]) hx hb dX1_goes_8 rfl hl (by decide) rfl (fun ls hl => ?_)
  refine lv_iload_n hx hb dX1_goes_9 rfl (lv_at hl 0 rfl) ?_
  refine lv_iconst (v := (-1 : Int32)) hx hb dX1_goes_10 (by decide) ?_
  refine lv_icmp_ne (tgt := 49) hx hb dX1_goes_11 (by decide) (fun c3 => ?_) (fun c3 => ?_)
  · have h := if_f h c3
    refine lv_aload_n hx hb dX1_goes_49 rfl (lv_at hl 2 rfl) ?_
    refine lv_iload_n hx hb dX1_goes_50 rfl (lv_at hl 0 rfl) ?_
    refine h_putI Z hS cls_2 ha1 (by decide) rfl rfl rfl fl_X1_219_2 dX1_goes_51 h (fun σ12 H locs hS h => ?_)
    refine lv_aload_n hx hb dX1_goes_54 rfl (lv_at hl 2 rfl) ?_
    refine lv_aload_n hx hb dX1_goes_55 rfl (lv_at hl 1 rfl) ?_
    refine h_getC (n := 100) (j := 100) (sh := (11, 0)) Z hS cls_0 hi0 (by decide) rfl rfl rfl fl_X1_18_0 dX1_goes_56 (fun hc13 => ?_)
    refine lv_aload_n hx hb dX1_goes_59 rfl (lv_at hl 1 rfl) ?_
    refine h_getC (n := 17) (j := 17) (sh := (1, 8)) Z hS cls_0 hi0 (by decide) rfl rfl rfl fl_X1_63_0 dX1_goes_60 (fun hc14 => ?_)
    refine h_cm hS h (fun z hz => h_rV (rest := []) Z hS ha1 rfl v_X1_341 (w_X3_pass ha1 hc13 hc14 hz) rfl rfl ⟨by decide, by decide⟩ rfl hl.1 rfl (Nat.le_of_ble_eq_true rfl) (Nat.zero_le _) (Nat.zero_le _) dX1_goes_63) (fun σ15 H locs hS h => ?_)
    refine lv_aload_n hx hb dX1_goes_66 rfl (lv_at hl 2 rfl) ?_
    refine h_ci hS h (fun z hz => h_rV (rest := []) Z hS ha1 rfl v_X1_345 (w_X3_comes ha1 hz) rfl rfl ⟨by decide, by decide⟩ rfl hl.1 rfl (Nat.le_of_ble_eq_true rfl) (Nat.zero_le _) (Nat.zero_le _) dX1_goes_67) (fun x16 H locs hS h => ?_)
    refine lv_if_eq (tgt := 92) hx hb dX1_goes_70 (by decide) (fun c17 => ?_) (fun c17 => ?_)
    · have h := if_t h c17
      exact h_vret Z hS dX1_goes_92 h
    · have h := if_f h c17
      refine lv_aload_n hx hb dX1_goes_73 rfl (lv_at hl 2 rfl) ?_
      refine h_getI Z hS cls_2 ha1 (by decide) rfl fl_X1_347_2 dX1_goes_74 h (fun x18 h => ?_)
      refine lv_iconst (v := (-1 : Int32)) hx hb dX1_goes_77 (by decide) ?_
      refine lv_icmp_eq (tgt := 93) hx hb dX1_goes_78 (by decide) (fun c19 => ?_) (fun c19 => ?_)
      · have h := if_t h c19
        refine lv_aload_n hx hb dX1_goes_93 rfl (lv_at hl 2 rfl) ?_
        refine lv_aload_n hx hb dX1_goes_94 rfl (lv_at hl 1 rfl) ?_
        refine h_getI Z hS cls_0 hi0 (by decide) rfl fl_X1_299_0 dX1_goes_95 h (fun x20 h => ?_)
        refine h_putI Z hS cls_2 ha1 (by decide) rfl rfl rfl fl_X1_347_2 dX1_goes_98 h (fun σ21 H locs hS h => ?_)
        refine lv_aload_n hx hb dX1_goes_101 rfl (lv_at hl 2 rfl) ?_
        refine lv_aload_n hx hb dX1_goes_102 rfl (lv_at hl 2 rfl) ?_
        refine h_getI Z hS cls_2 ha1 (by decide) rfl fl_X1_222_2 dX1_goes_103 h (fun x22 h => ?_)
        refine h_putI Z hS cls_2 ha1 (by decide) rfl rfl rfl fl_X1_350_2 dX1_goes_106 h (fun σ23 H locs hS h => ?_)
        exact h_vret Z hS dX1_goes_109 h
      · have h := if_f h c19
        refine lv_aload_n hx hb dX1_goes_81 rfl (lv_at hl 2 rfl) ?_
        refine h_getI Z hS cls_2 ha1 (by decide) rfl fl_X1_222_2 dX1_goes_82 h (fun x24 h => ?_)
        refine lv_aload_n hx hb dX1_goes_85 rfl (lv_at hl 2 rfl) ?_
        refine h_getI Z hS cls_2 ha1 (by decide) rfl fl_X1_350_2 dX1_goes_86 h (fun x25 h => ?_)
        refine lv_icmp_lt (tgt := 93) hx hb dX1_goes_89 (by decide) (fun c26 => ?_) (fun c26 => ?_)
        · have h := if_t h c26
          refine lv_aload_n hx hb dX1_goes_93 rfl (lv_at hl 2 rfl) ?_
          refine lv_aload_n hx hb dX1_goes_94 rfl (lv_at hl 1 rfl) ?_
          refine h_getI Z hS cls_0 hi0 (by decide) rfl fl_X1_299_0 dX1_goes_95 h (fun x27 h => ?_)
          refine h_putI Z hS cls_2 ha1 (by decide) rfl rfl rfl fl_X1_347_2 dX1_goes_98 h (fun σ28 H locs hS h => ?_)
          refine lv_aload_n hx hb dX1_goes_101 rfl (lv_at hl 2 rfl) ?_
          refine lv_aload_n hx hb dX1_goes_102 rfl (lv_at hl 2 rfl) ?_
          refine h_getI Z hS cls_2 ha1 (by decide) rfl fl_X1_222_2 dX1_goes_103 h (fun x29 h => ?_)
          refine h_putI Z hS cls_2 ha1 (by decide) rfl rfl rfl fl_X1_350_2 dX1_goes_106 h (fun σ30 H locs hS h => ?_)
          exact h_vret Z hS dX1_goes_109 h
        · have h := if_f h c26
          exact h_vret Z hS dX1_goes_92 h
  · have h := if_t h c3
    refine lv_aload_n hx hb dX1_goes_14 rfl (lv_at hl 2 rfl) ?_
    refine lv_iconst (v := (4 : Int32)) hx hb dX1_goes_15 (by decide) ?_
    refine h_putI Z hS cls_2 ha1 (by decide) rfl rfl rfl fl_X1_193_2 dX1_goes_16 h (fun σ4 H locs hS h => ?_)
    refine lv_iconst (v := (0 : Int32)) hx hb dX1_goes_19 (by decide) ?_
    refine lv_istore_n (lv' := [(3, .int (0 : Int32)), (2, .int x2), (0, .ref (ad 0)), (1, .ref (ad a1))]) hx hb dX1_goes_20 rfl hl (by decide) rfl (fun ls hl => ?_)
    refine w_X1_goes_L21 Z hi0 ha1 (fun σ11 H locs ls hS hl h => ?_) FU _ _ _ _ _ hS (lv_sub hl [2, 3, 0] rfl) h
    exact h_vret Z hS dX1_goes_48 h
end
theorem dX1_runs_0 : decode cX1_runs 0 = .ok (.aload_n 0, 1) := by decide +kernel
theorem dX1_runs_1 : decode cX1_runs 1 = .ok (.invokevirtual 327, 3) := by decide +kernel
theorem dX1_runs_4 : decode cX1_runs 4 = .ok (.iconst 0, 1) := by decide +kernel
theorem dX1_runs_5 : decode cX1_runs 5 = .ok (.istore_n 1, 1) := by decide +kernel
theorem dX1_runs_6 : decode cX1_runs 6 = .ok (.iload_n 1, 1) := by decide +kernel
theorem dX1_runs_7 : decode cX1_runs 7 = .ok (.bipush 8, 2) := by decide +kernel
theorem dX1_runs_9 : decode cX1_runs 9 = .ok (.if_icmp .ge 145, 3) := by decide +kernel
theorem dX1_runs_12 : decode cX1_runs 12 = .ok (.aload_n 0, 1) := by decide +kernel
theorem dX1_runs_13 : decode cX1_runs 13 = .ok (.getfield 42, 3) := by decide +kernel
theorem dX1_runs_16 : decode cX1_runs 16 = .ok (.iload_n 1, 1) := by decide +kernel
theorem dX1_runs_17 : decode cX1_runs 17 = .ok (.iaload, 1) := by decide +kernel
theorem dX1_runs_18 : decode cX1_runs 18 = .ok (.istore_n 2, 1) := by decide +kernel
theorem dX1_runs_19 : decode cX1_runs 19 = .ok (.iconst 0, 1) := by decide +kernel
theorem dX1_runs_20 : decode cX1_runs 20 = .ok (.istore_n 3, 1) := by decide +kernel
theorem dX1_runs_21 : decode cX1_runs 21 = .ok (.iload_n 3, 1) := by decide +kernel
theorem dX1_runs_22 : decode cX1_runs 22 = .ok (.aload_n 0, 1) := by decide +kernel
theorem dX1_runs_23 : decode cX1_runs 23 = .ok (.getfield 140, 3) := by decide +kernel
theorem dX1_runs_26 : decode cX1_runs 26 = .ok (.if_icmp .ge 59, 3) := by decide +kernel
theorem dX1_runs_29 : decode cX1_runs 29 = .ok (.aload_n 0, 1) := by decide +kernel
theorem dX1_runs_30 : decode cX1_runs 30 = .ok (.getfield 24, 3) := by decide +kernel
theorem dX1_runs_33 : decode cX1_runs 33 = .ok (.iload_n 3, 1) := by decide +kernel
theorem dX1_runs_34 : decode cX1_runs 34 = .ok (.aaload, 1) := by decide +kernel
theorem dX1_runs_35 : decode cX1_runs 35 = .ok (.getfield 330, 3) := by decide +kernel
theorem dX1_runs_38 : decode cX1_runs 38 = .ok (.iload_n 1, 1) := by decide +kernel
theorem dX1_runs_39 : decode cX1_runs 39 = .ok (.aload_n 0, 1) := by decide +kernel
theorem dX1_runs_40 : decode cX1_runs 40 = .ok (.getfield 42, 3) := by decide +kernel
theorem dX1_runs_43 : decode cX1_runs 43 = .ok (.iload_n 1, 1) := by decide +kernel
theorem dX1_runs_44 : decode cX1_runs 44 = .ok (.iaload, 1) := by decide +kernel
theorem dX1_runs_45 : decode cX1_runs 45 = .ok (.i2l, 1) := by decide +kernel
theorem dX1_runs_46 : decode cX1_runs 46 = .ok (.aload_n 0, 1) := by decide +kernel
theorem dX1_runs_47 : decode cX1_runs 47 = .ok (.getfield 24, 3) := by decide +kernel
theorem dX1_runs_50 : decode cX1_runs 50 = .ok (.iload_n 3, 1) := by decide +kernel
theorem dX1_runs_51 : decode cX1_runs 51 = .ok (.aaload, 1) := by decide +kernel
theorem dX1_runs_52 : decode cX1_runs 52 = .ok (.getfield 216, 3) := by decide +kernel
theorem dX1_runs_55 : decode cX1_runs 55 = .ok (.i2l, 1) := by decide +kernel
theorem dX1_runs_56 : decode cX1_runs 56 = .ok (.lmul, 1) := by decide +kernel
theorem dX1_runs_57 : decode cX1_runs 57 = .ok (.aload_n 0, 1) := by decide +kernel
theorem dX1_runs_58 : decode cX1_runs 58 = .ok (.getfield 294, 3) := by decide +kernel
theorem dX1_runs_61 : decode cX1_runs 61 = .ok (.i2l, 1) := by decide +kernel
theorem dX1_runs_62 : decode cX1_runs 62 = .ok (.ldiv, 1) := by decide +kernel
theorem dX1_runs_63 : decode cX1_runs 63 = .ok (.l2i, 1) := by decide +kernel
theorem dX1_runs_64 : decode cX1_runs 64 = .ok (.iastore, 1) := by decide +kernel
theorem dX1_runs_65 : decode cX1_runs 65 = .ok (.iload_n 2, 1) := by decide +kernel
theorem dX1_runs_66 : decode cX1_runs 66 = .ok (.aload_n 0, 1) := by decide +kernel
theorem dX1_runs_67 : decode cX1_runs 67 = .ok (.getfield 24, 3) := by decide +kernel
theorem dX1_runs_70 : decode cX1_runs 70 = .ok (.iload_n 3, 1) := by decide +kernel
theorem dX1_runs_71 : decode cX1_runs 71 = .ok (.aaload, 1) := by decide +kernel
theorem dX1_runs_72 : decode cX1_runs 72 = .ok (.getfield 330, 3) := by decide +kernel
theorem dX1_runs_75 : decode cX1_runs 75 = .ok (.iload_n 1, 1) := by decide +kernel
theorem dX1_runs_76 : decode cX1_runs 76 = .ok (.iaload, 1) := by decide +kernel
theorem dX1_runs_77 : decode cX1_runs 77 = .ok (.isub, 1) := by decide +kernel
theorem dX1_runs_78 : decode cX1_runs 78 = .ok (.istore_n 2, 1) := by decide +kernel
theorem dX1_runs_79 : decode cX1_runs 79 = .ok (.iinc 3 1, 3) := by decide +kernel
theorem dX1_runs_82 : decode cX1_runs 82 = .ok (.goto (-61), 3) := by decide +kernel
theorem dX1_runs_85 : decode cX1_runs 85 = .ok (.iconst 0, 1) := by decide +kernel
theorem dX1_runs_86 : decode cX1_runs 86 = .ok (.istore_n 3, 1) := by decide +kernel
theorem dX1_runs_87 : decode cX1_runs 87 = .ok (.iload_n 3, 1) := by decide +kernel
theorem dX1_runs_88 : decode cX1_runs 88 = .ok (.aload_n 0, 1) := by decide +kernel
theorem dX1_runs_89 : decode cX1_runs 89 = .ok (.getfield 140, 3) := by decide +kernel
theorem dX1_runs_92 : decode cX1_runs 92 = .ok (.if_icmp .ge 46, 3) := by decide +kernel
theorem dX1_runs_95 : decode cX1_runs 95 = .ok (.iload_n 2, 1) := by decide +kernel
theorem dX1_runs_96 : decode cX1_runs 96 = .ok (.ifCond .le 42, 3) := by decide +kernel
theorem dX1_runs_99 : decode cX1_runs 99 = .ok (.aload_n 0, 1) := by decide +kernel
theorem dX1_runs_100 : decode cX1_runs 100 = .ok (.getfield 24, 3) := by decide +kernel
theorem dX1_runs_103 : decode cX1_runs 103 = .ok (.iload_n 3, 1) := by decide +kernel
theorem dX1_runs_104 : decode cX1_runs 104 = .ok (.aaload, 1) := by decide +kernel
theorem dX1_runs_105 : decode cX1_runs 105 = .ok (.getfield 216, 3) := by decide +kernel
theorem dX1_runs_108 : decode cX1_runs 108 = .ok (.ifCond .ne 6, 3) := by decide +kernel
theorem dX1_runs_111 : decode cX1_runs 111 = .ok (.goto 21, 3) := by decide +kernel
theorem dX1_runs_114 : decode cX1_runs 114 = .ok (.aload_n 0, 1) := by decide +kernel
theorem dX1_runs_115 : decode cX1_runs 115 = .ok (.getfield 24, 3) := by decide +kernel
theorem dX1_runs_118 : decode cX1_runs 118 = .ok (.iload_n 3, 1) := by decide +kernel
theorem dX1_runs_119 : decode cX1_runs 119 = .ok (.aaload, 1) := by decide +kernel
theorem dX1_runs_120 : decode cX1_runs 120 = .ok (.getfield 330, 3) := by decide +kernel
theorem dX1_runs_123 : decode cX1_runs 123 = .ok (.iload_n 1, 1) := by decide +kernel
theorem dX1_runs_124 : decode cX1_runs 124 = .ok (.dup2, 1) := by decide +kernel
theorem dX1_runs_125 : decode cX1_runs 125 = .ok (.iaload, 1) := by decide +kernel
theorem dX1_runs_126 : decode cX1_runs 126 = .ok (.iconst 1, 1) := by decide +kernel
theorem dX1_runs_127 : decode cX1_runs 127 = .ok (.iadd, 1) := by decide +kernel
theorem dX1_runs_128 : decode cX1_runs 128 = .ok (.iastore, 1) := by decide +kernel
theorem dX1_runs_129 : decode cX1_runs 129 = .ok (.iinc 2 (-1), 3) := by decide +kernel
theorem dX1_runs_132 : decode cX1_runs 132 = .ok (.iinc 3 1, 3) := by decide +kernel
theorem dX1_runs_135 : decode cX1_runs 135 = .ok (.goto (-48), 3) := by decide +kernel
theorem dX1_runs_138 : decode cX1_runs 138 = .ok (.aload_n 0, 1) := by decide +kernel
theorem dX1_runs_139 : decode cX1_runs 139 = .ok (.getfield 66, 3) := by decide +kernel
theorem dX1_runs_142 : decode cX1_runs 142 = .ok (.iload_n 1, 1) := by decide +kernel
theorem dX1_runs_143 : decode cX1_runs 143 = .ok (.dup2, 1) := by decide +kernel
theorem dX1_runs_144 : decode cX1_runs 144 = .ok (.iaload, 1) := by decide +kernel
theorem dX1_runs_145 : decode cX1_runs 145 = .ok (.iload_n 2, 1) := by decide +kernel
theorem dX1_runs_146 : decode cX1_runs 146 = .ok (.iadd, 1) := by decide +kernel
theorem dX1_runs_147 : decode cX1_runs 147 = .ok (.iastore, 1) := by decide +kernel
theorem dX1_runs_148 : decode cX1_runs 148 = .ok (.iinc 1 1, 3) := by decide +kernel
theorem dX1_runs_151 : decode cX1_runs 151 = .ok (.goto (-145), 3) := by decide +kernel
theorem dX1_runs_154 : decode cX1_runs 154 = .ok (.iconst 0, 1) := by decide +kernel
theorem dX1_runs_155 : decode cX1_runs 155 = .ok (.istore_n 1, 1) := by decide +kernel
theorem dX1_runs_156 : decode cX1_runs 156 = .ok (.iload_n 1, 1) := by decide +kernel
theorem dX1_runs_157 : decode cX1_runs 157 = .ok (.aload_n 0, 1) := by decide +kernel
theorem dX1_runs_158 : decode cX1_runs 158 = .ok (.getfield 140, 3) := by decide +kernel
theorem dX1_runs_161 : decode cX1_runs 161 = .ok (.if_icmp .ge 31, 3) := by decide +kernel
theorem dX1_runs_164 : decode cX1_runs 164 = .ok (.aload_n 0, 1) := by decide +kernel
theorem dX1_runs_165 : decode cX1_runs 165 = .ok (.getfield 24, 3) := by decide +kernel
theorem dX1_runs_168 : decode cX1_runs 168 = .ok (.iload_n 1, 1) := by decide +kernel
theorem dX1_runs_169 : decode cX1_runs 169 = .ok (.aaload, 1) := by decide +kernel
theorem dX1_runs_170 : decode cX1_runs 170 = .ok (.getfield 216, 3) := by decide +kernel
theorem dX1_runs_173 : decode cX1_runs 173 = .ok (.ifCond .le 13, 3) := by decide +kernel
theorem dX1_runs_176 : decode cX1_runs 176 = .ok (.aload_n 0, 1) := by decide +kernel
theorem dX1_runs_177 : decode cX1_runs 177 = .ok (.aload_n 0, 1) := by decide +kernel
theorem dX1_runs_178 : decode cX1_runs 178 = .ok (.getfield 24, 3) := by decide +kernel
theorem dX1_runs_181 : decode cX1_runs 181 = .ok (.iload_n 1, 1) := by decide +kernel
theorem dX1_runs_182 : decode cX1_runs 182 = .ok (.aaload, 1) := by decide +kernel
theorem dX1_runs_183 : decode cX1_runs 183 = .ok (.invokevirtual 333, 3) := by decide +kernel
theorem dX1_runs_186 : decode cX1_runs 186 = .ok (.iinc 1 1, 3) := by decide +kernel
theorem dX1_runs_189 : decode cX1_runs 189 = .ok (.goto (-33), 3) := by decide +kernel
theorem dX1_runs_192 : decode cX1_runs 192 = .ok (.iconst 0, 1) := by decide +kernel
theorem dX1_runs_193 : decode cX1_runs 193 = .ok (.istore_n 1, 1) := by decide +kernel
theorem dX1_runs_194 : decode cX1_runs 194 = .ok (.iload_n 1, 1) := by decide +kernel
theorem dX1_runs_195 : decode cX1_runs 195 = .ok (.aload_n 0, 1) := by decide +kernel
theorem dX1_runs_196 : decode cX1_runs 196 = .ok (.getfield 140, 3) := by decide +kernel
theorem dX1_runs_199 : decode cX1_runs 199 = .ok (.if_icmp .ge 68, 3) := by decide +kernel
theorem dX1_runs_202 : decode cX1_runs 202 = .ok (.aload_n 0, 1) := by decide +kernel
theorem dX1_runs_203 : decode cX1_runs 203 = .ok (.getfield 24, 3) := by decide +kernel
theorem dX1_runs_206 : decode cX1_runs 206 = .ok (.iload_n 1, 1) := by decide +kernel
theorem dX1_runs_207 : decode cX1_runs 207 = .ok (.aaload, 1) := by decide +kernel
theorem dX1_runs_208 : decode cX1_runs 208 = .ok (.getfield 193, 3) := by decide +kernel
theorem dX1_runs_211 : decode cX1_runs 211 = .ok (.iconst 1, 1) := by decide +kernel
theorem dX1_runs_212 : decode cX1_runs 212 = .ok (.if_icmp .ne 49, 3) := by decide +kernel
theorem dX1_runs_215 : decode cX1_runs 215 = .ok (.aload_n 0, 1) := by decide +kernel
theorem dX1_runs_216 : decode cX1_runs 216 = .ok (.getfield 24, 3) := by decide +kernel
theorem dX1_runs_219 : decode cX1_runs 219 = .ok (.iload_n 1, 1) := by decide +kernel
theorem dX1_runs_220 : decode cX1_runs 220 = .ok (.aaload, 1) := by decide +kernel
theorem dX1_runs_221 : decode cX1_runs 221 = .ok (.invokevirtual 209, 3) := by decide +kernel
theorem dX1_runs_224 : decode cX1_runs 224 = .ok (.ifCond .ne 37, 3) := by decide +kernel
theorem dX1_runs_227 : decode cX1_runs 227 = .ok (.aload_n 0, 1) := by decide +kernel
theorem dX1_runs_228 : decode cX1_runs 228 = .ok (.getfield 24, 3) := by decide +kernel
theorem dX1_runs_231 : decode cX1_runs 231 = .ok (.iload_n 1, 1) := by decide +kernel
theorem dX1_runs_232 : decode cX1_runs 232 = .ok (.aaload, 1) := by decide +kernel
theorem dX1_runs_233 : decode cX1_runs 233 = .ok (.getfield 337, 3) := by decide +kernel
theorem dX1_runs_236 : decode cX1_runs 236 = .ok (.ifCond .ne 25, 3) := by decide +kernel
theorem dX1_runs_239 : decode cX1_runs 239 = .ok (.aload_n 0, 1) := by decide +kernel
theorem dX1_runs_240 : decode cX1_runs 240 = .ok (.getfield 24, 3) := by decide +kernel
theorem dX1_runs_243 : decode cX1_runs 243 = .ok (.iload_n 1, 1) := by decide +kernel
theorem dX1_runs_244 : decode cX1_runs 244 = .ok (.aaload, 1) := by decide +kernel
theorem dX1_runs_245 : decode cX1_runs 245 = .ok (.getfield 216, 3) := by decide +kernel
theorem dX1_runs_248 : decode cX1_runs 248 = .ok (.ifCond .ne 13, 3) := by decide +kernel
theorem dX1_runs_251 : decode cX1_runs 251 = .ok (.aload_n 0, 1) := by decide +kernel
theorem dX1_runs_252 : decode cX1_runs 252 = .ok (.getfield 24, 3) := by decide +kernel
theorem dX1_runs_255 : decode cX1_runs 255 = .ok (.iload_n 1, 1) := by decide +kernel
theorem dX1_runs_256 : decode cX1_runs 256 = .ok (.aaload, 1) := by decide +kernel
theorem dX1_runs_257 : decode cX1_runs 257 = .ok (.iconst 4, 1) := by decide +kernel
theorem dX1_runs_258 : decode cX1_runs 258 = .ok (.putfield 193, 3) := by decide +kernel
theorem dX1_runs_261 : decode cX1_runs 261 = .ok (.iinc 1 1, 3) := by decide +kernel
theorem dX1_runs_264 : decode cX1_runs 264 = .ok (.goto (-70), 3) := by decide +kernel
theorem dX1_runs_267 : decode cX1_runs 267 = .ok (.return_, 1) := by decide +kernel
abbrev rm_X1_runs : Room := k2_rm 7 155
section
variable {p : Program} {l : Launch} {e : Env} {s : State} {m : MethodId} {args : Array Value} {below : List Frame} {meth : Method} {c : Code} {D : gD} {A : Nat → Prop} {ad : Nat → Nat} {S : Nat → Nat × Nat} {σ : Mem}
set_option maxRecDepth 100000 in
set_option maxHeartbeats 4000000 in
theorem w_X1_runs_L21 (Z : Cz D (Ew D A) A cX1_runs 4 none RX1 p s m args meth c) {u1 : Int32} (hu0 : S 0 = (10, 0)) {r : Mem} {k85 : Mem → Int32 → Option Mem}
    (hk85 : ∀ (σ : Mem) (w2 : Int32) (H : Heap) (locs : List Loc) (ls : Array Slot), St D A ad S σ s.heap H locs → lv_has ls 4 [(0, .ref (ad 0)), (1, .int u1), (2, .int w2)] → k85 σ w2 = some r → W p l e rm_X1_runs s m args below meth c H locs 0 0 (MQ below (QG D A ad S none r) args s 0 0 A) (F0 m 85 ls [])) :
    ∀ (n : Nat) (σ : Mem) (v2 : Int32) (v3 : Int32) (H : Heap) (locs : List Loc) (ls : Array Slot), St D A ad S σ s.heap H locs → lv_has ls 4 [(0, .ref (ad 0)), (1, .int u1), (2, .int v2), (3, .int v3)] → f_X1_runs_L21 k85 u1 n σ v2 v3 = some r → W p l e rm_X1_runs s m args below meth c H locs 0 0 (MQ below (QG D A ad S none r) args s 0 0 A) (F0 m 21 ls []) := by
  have hx := Z.1
  have hb := Z.2.1
  have hown := Z.2.2.2.2.2.1
  have hts := Z.2.2.2.2.2.2.1
  intro n
  induction n with
  | zero => intro σ v2 v3 H locs ls hS hl h; cases h
  | succ n ih =>
    intro σ v2 v3 H locs ls hS hl h
    unfold f_X1_runs_L21 at h
    refine lv_iload_n hx hb dX1_runs_21 rfl (lv_at hl 3 rfl) ?_
    refine lv_aload_n hx hb dX1_runs_22 rfl (lv_at hl 0 rfl) ?_
    refine h_getI Z hS cls_0 hu0 (by decide) rfl fl_X1_140_0 dX1_runs_23 h (fun x5 h => ?_)
    refine lv_icmp_ge (tgt := 85) hx hb dX1_runs_26 (by decide) (fun c6 => ?_) (fun c6 => ?_)
    · have h := if_t h c6
      exact hk85 _ _ _ _ _ hS (lv_sub hl [0, 1, 2] rfl) h
    · have h := if_f h c6
      refine lv_aload_n hx hb dX1_runs_29 rfl (lv_at hl 0 rfl) ?_
      refine h_getC (n := 3) (j := 3) (sh := (5, 8)) Z hS cls_0 hu0 (by decide) rfl rfl rfl fl_X1_24_0 dX1_runs_30 (fun hc7 => ?_)
      refine lv_iload_n hx hb dX1_runs_33 rfl (lv_at hl 3 rfl) ?_
      refine h_aldN (sh := (12, 0)) Z hS hc7 (by decide) (by decide) rfl dX1_runs_34 h (fun j8 hj8 h => ?_)
      refine h_getC (n := 5) (j := (j8 + 5)) (sh := (1, 8)) Z hS cls_2 hj8 (by decide) rfl rfl rfl fl_X1_330_2 dX1_runs_35 (fun hc9 => ?_)
      refine lv_iload_n hx hb dX1_runs_38 rfl (lv_at hl 1 rfl) ?_
      refine lv_aload_n hx hb dX1_runs_39 rfl (lv_at hl 0 rfl) ?_
      refine h_getC (n := 10) (j := 10) (sh := (1, 8)) Z hS cls_0 hu0 (by decide) rfl rfl rfl fl_X1_42_0 dX1_runs_40 (fun hc10 => ?_)
      refine lv_iload_n hx hb dX1_runs_43 rfl (lv_at hl 1 rfl) ?_
      refine h_iald Z hS hc10 dX1_runs_44 h (fun x11 h => ?_)
      refine lv_i2l hx hb dX1_runs_45 rfl ?_
      refine lv_aload_n hx hb dX1_runs_46 rfl (lv_at hl 0 rfl) ?_
      refine h_getC (n := 3) (j := 3) (sh := (5, 8)) Z hS cls_0 hu0 (by decide) rfl rfl rfl fl_X1_24_0 dX1_runs_47 (fun hc12 => ?_)
      refine lv_iload_n hx hb dX1_runs_50 rfl (lv_at hl 3 rfl) ?_
      refine h_aldN (sh := (12, 0)) Z hS hc12 (by decide) (by decide) rfl dX1_runs_51 h (fun j13 hj13 h => ?_)
      refine h_getI Z hS cls_2 hj13 (by decide) rfl fl_X1_216_2 dX1_runs_52 h (fun x14 h => ?_)
      refine lv_i2l hx hb dX1_runs_55 rfl ?_
      refine lv_lmul hx hb dX1_runs_56 ?_
      refine lv_aload_n hx hb dX1_runs_57 rfl (lv_at hl 0 rfl) ?_
      refine h_getI Z hS cls_0 hu0 (by decide) rfl fl_X1_294_0 dX1_runs_58 h (fun x15 h => ?_)
      refine lv_i2l hx hb dX1_runs_61 rfl ?_
      refine h_ldiv Z dX1_runs_62 h (fun h => ?_)
      refine lv_l2i hx hb dX1_runs_63 rfl ?_
      refine h_iast Z hS hc9 dX1_runs_64 h (fun σ16 H locs hS h => ?_)
      refine lv_iload_n hx hb dX1_runs_65 rfl (lv_at hl 2 rfl) ?_
      refine lv_aload_n hx hb dX1_runs_66 rfl (lv_at hl 0 rfl) ?_
      refine h_getC (n := 3) (j := 3) (sh := (5, 8)) Z hS cls_0 hu0 (by decide) rfl rfl rfl fl_X1_24_0 dX1_runs_67 (fun hc17 => ?_)
      refine lv_iload_n hx hb dX1_runs_70 rfl (lv_at hl 3 rfl) ?_
      refine h_aldN (sh := (12, 0)) Z hS hc17 (by decide) (by decide) rfl dX1_runs_71 h (fun j18 hj18 h => ?_)
      refine h_getC (n := 5) (j := (j18 + 5)) (sh := (1, 8)) Z hS cls_2 hj18 (by decide) rfl rfl rfl fl_X1_330_2 dX1_runs_72 (fun hc19 => ?_)
      refine lv_iload_n hx hb dX1_runs_75 rfl (lv_at hl 1 rfl) ?_
      refine h_iald Z hS hc19 dX1_runs_76 h (fun x20 h => ?_)
      refine lv_isub hx hb dX1_runs_77 ?_
      refine h_leti h (fun x21 h => ?_)
      refine lv_istore_n (lv' := [(2, .int x21), (0, .ref (ad 0)), (1, .int u1), (3, .int v3)]) hx hb dX1_runs_78 rfl hl (by decide) rfl (fun ls hl => ?_)
      refine lv_iinc (v := (v3 + (1 : Int32))) (lv' := [(3, .int (v3 + (1 : Int32))), (2, .int x21), (0, .ref (ad 0)), (1, .int u1)]) hx hb dX1_runs_79 hl (k := 3) rfl rfl (by decide) rfl (fun ls hl => ?_)
      refine lv_goto (tgt := 21) hx hb dX1_runs_82 (by decide) ?_
      exact ih _ _ _ _ _ _ hS (lv_sub hl [2, 3, 1, 0] rfl) h
set_option maxRecDepth 100000 in
set_option maxHeartbeats 4000000 in
theorem w_X1_runs_L87 (Z : Cz D (Ew D A) A cX1_runs 4 none RX1 p s m args meth c) {u1 : Int32} (hu0 : S 0 = (10, 0)) {r : Mem} {k138 : Mem → Int32 → Option Mem}
    (hk138 : ∀ (σ : Mem) (w2 : Int32) (H : Heap) (locs : List Loc) (ls : Array Slot), St D A ad S σ s.heap H locs → lv_has ls 4 [(0, .ref (ad 0)), (1, .int u1), (2, .int w2)] → k138 σ w2 = some r → W p l e rm_X1_runs s m args below meth c H locs 0 0 (MQ below (QG D A ad S none r) args s 0 0 A) (F0 m 138 ls [])) :
    ∀ (n : Nat) (σ : Mem) (v2 : Int32) (v3 : Int32) (H : Heap) (locs : List Loc) (ls : Array Slot), St D A ad S σ s.heap H locs → lv_has ls 4 [(0, .ref (ad 0)), (1, .int u1), (2, .int v2), (3, .int v3)] → f_X1_runs_L87 k138 u1 n σ v2 v3 = some r → W p l e rm_X1_runs s m args below meth c H locs 0 0 (MQ below (QG D A ad S none r) args s 0 0 A) (F0 m 87 ls []) := by
  have hx := Z.1
  have hb := Z.2.1
  have hown := Z.2.2.2.2.2.1
  have hts := Z.2.2.2.2.2.2.1
  intro n
  induction n with
  | zero => intro σ v2 v3 H locs ls hS hl h; cases h
  | succ n ih =>
    intro σ v2 v3 H locs ls hS hl h
    unfold f_X1_runs_L87 at h
    refine lv_iload_n hx hb dX1_runs_87 rfl (lv_at hl 3 rfl) ?_
    refine lv_aload_n hx hb dX1_runs_88 rfl (lv_at hl 0 rfl) ?_
    refine h_getI Z hS cls_0 hu0 (by decide) rfl fl_X1_140_0 dX1_runs_89 h (fun x24 h => ?_)
    refine lv_icmp_ge (tgt := 138) hx hb dX1_runs_92 (by decide) (fun c25 => ?_) (fun c25 => ?_)
    · have h := if_t h c25
      exact hk138 _ _ _ _ _ hS (lv_sub hl [0, 1, 2] rfl) h
    · have h := if_f h c25
      refine lv_iload_n hx hb dX1_runs_95 rfl (lv_at hl 2 rfl) ?_
      refine lv_if_le (tgt := 138) hx hb dX1_runs_96 (by decide) (fun c26 => ?_) (fun c26 => ?_)
      · have h := if_t h c26
        exact hk138 _ _ _ _ _ hS (lv_sub hl [0, 1, 2] rfl) h
      · have h := if_f h c26
        refine lv_aload_n hx hb dX1_runs_99 rfl (lv_at hl 0 rfl) ?_
        refine h_getC (n := 3) (j := 3) (sh := (5, 8)) Z hS cls_0 hu0 (by decide) rfl rfl rfl fl_X1_24_0 dX1_runs_100 (fun hc27 => ?_)
        refine lv_iload_n hx hb dX1_runs_103 rfl (lv_at hl 3 rfl) ?_
        refine h_aldN (sh := (12, 0)) Z hS hc27 (by decide) (by decide) rfl dX1_runs_104 h (fun j28 hj28 h => ?_)
        refine h_getI Z hS cls_2 hj28 (by decide) rfl fl_X1_216_2 dX1_runs_105 h (fun x29 h => ?_)
        refine lv_if_ne (tgt := 114) hx hb dX1_runs_108 (by decide) (fun c30 => ?_) (fun c30 => ?_)
        · have h := if_f h c30
          refine lv_aload_n hx hb dX1_runs_114 rfl (lv_at hl 0 rfl) ?_
          refine h_getC (n := 3) (j := 3) (sh := (5, 8)) Z hS cls_0 hu0 (by decide) rfl rfl rfl fl_X1_24_0 dX1_runs_115 (fun hc31 => ?_)
          refine lv_iload_n hx hb dX1_runs_118 rfl (lv_at hl 3 rfl) ?_
          refine h_aldN (sh := (12, 0)) Z hS hc31 (by decide) (by decide) rfl dX1_runs_119 h (fun j32 hj32 h => ?_)
          refine h_getC (n := 5) (j := (j32 + 5)) (sh := (1, 8)) Z hS cls_2 hj32 (by decide) rfl rfl rfl fl_X1_330_2 dX1_runs_120 (fun hc33 => ?_)
          refine lv_iload_n hx hb dX1_runs_123 rfl (lv_at hl 1 rfl) ?_
          refine lv_dup2_11 hx hb dX1_runs_124 rfl rfl ?_
          refine h_iald Z hS hc33 dX1_runs_125 h (fun x34 h => ?_)
          refine lv_iconst (v := (1 : Int32)) hx hb dX1_runs_126 (by decide) ?_
          refine lv_iadd hx hb dX1_runs_127 ?_
          refine h_iast Z hS hc33 dX1_runs_128 h (fun σ35 H locs hS h => ?_)
          refine lv_iinc (v := (v2 + (-1 : Int32))) (lv' := [(2, .int (v2 + (-1 : Int32))), (0, .ref (ad 0)), (1, .int u1), (3, .int v3)]) hx hb dX1_runs_129 hl (k := 2) rfl rfl (by decide) rfl (fun ls hl => ?_)
          refine lv_iinc (v := (v3 + (1 : Int32))) (lv' := [(3, .int (v3 + (1 : Int32))), (2, .int (v2 + (-1 : Int32))), (0, .ref (ad 0)), (1, .int u1)]) hx hb dX1_runs_132 hl (k := 3) rfl rfl (by decide) rfl (fun ls hl => ?_)
          refine lv_goto (tgt := 87) hx hb dX1_runs_135 (by decide) ?_
          exact ih _ _ _ _ _ _ hS (lv_sub hl [2, 3, 1, 0] rfl) h
        · have h := if_t h c30
          refine lv_goto (tgt := 132) hx hb dX1_runs_111 (by decide) ?_
          refine lv_iinc (v := (v3 + (1 : Int32))) (lv' := [(3, .int (v3 + (1 : Int32))), (0, .ref (ad 0)), (1, .int u1), (2, .int v2)]) hx hb dX1_runs_132 hl (k := 3) rfl rfl (by decide) rfl (fun ls hl => ?_)
          refine lv_goto (tgt := 87) hx hb dX1_runs_135 (by decide) ?_
          exact ih _ _ _ _ _ _ hS (lv_sub hl [1, 2, 3, 0] rfl) h
set_option maxRecDepth 100000 in
set_option maxHeartbeats 4000000 in
theorem w_X1_runs_L6 (Z : Cz D (Ew D A) A cX1_runs 4 none RX1 p s m args meth c) (hu0 : S 0 = (10, 0)) {r : Mem} {k154 : Mem → Option Mem}
    (hk154 : ∀ (σ : Mem)  (H : Heap) (locs : List Loc) (ls : Array Slot), St D A ad S σ s.heap H locs → lv_has ls 4 [(0, .ref (ad 0))] → k154 σ = some r → W p l e rm_X1_runs s m args below meth c H locs 0 0 (MQ below (QG D A ad S none r) args s 0 0 A) (F0 m 154 ls [])) :
    ∀ (n : Nat) (σ : Mem) (v1 : Int32) (H : Heap) (locs : List Loc) (ls : Array Slot), St D A ad S σ s.heap H locs → lv_has ls 4 [(0, .ref (ad 0)), (1, .int v1)] → f_X1_runs_L6 k154 n σ v1 = some r → W p l e rm_X1_runs s m args below meth c H locs 0 0 (MQ below (QG D A ad S none r) args s 0 0 A) (F0 m 6 ls []) := by
  have hx := Z.1
  have hb := Z.2.1
  have hown := Z.2.2.2.2.2.1
  have hts := Z.2.2.2.2.2.2.1
  intro n
  induction n with
  | zero => intro σ v1 H locs ls hS hl h; cases h
  | succ n ih =>
    intro σ v1 H locs ls hS hl h
    unfold f_X1_runs_L6 at h
    refine lv_iload_n hx hb dX1_runs_6 rfl (lv_at hl 1 rfl) ?_
    refine lv_bipush (v := (8 : Int32)) hx hb dX1_runs_7 (by decide) ?_
    refine lv_icmp_ge (tgt := 154) hx hb dX1_runs_9 (by decide) (fun c2 => ?_) (fun c2 => ?_)
    · have h := if_t h c2
      exact hk154 _ _ _ _ hS (lv_sub hl [0] rfl) h
    · have h := if_f h c2
      refine lv_aload_n hx hb dX1_runs_12 rfl (lv_at hl 0 rfl) ?_
      refine h_getC (n := 10) (j := 10) (sh := (1, 8)) Z hS cls_0 hu0 (by decide) rfl rfl rfl fl_X1_42_0 dX1_runs_13 (fun hc3 => ?_)
      refine lv_iload_n hx hb dX1_runs_16 rfl (lv_at hl 1 rfl) ?_
      refine h_iald Z hS hc3 dX1_runs_17 h (fun x4 h => ?_)
      refine lv_istore_n (lv' := [(2, .int x4), (0, .ref (ad 0)), (1, .int v1)]) hx hb dX1_runs_18 rfl hl (by decide) rfl (fun ls hl => ?_)
      refine lv_iconst (v := (0 : Int32)) hx hb dX1_runs_19 (by decide) ?_
      refine lv_istore_n (lv' := [(3, .int (0 : Int32)), (2, .int x4), (0, .ref (ad 0)), (1, .int v1)]) hx hb dX1_runs_20 rfl hl (by decide) rfl (fun ls hl => ?_)
      refine w_X1_runs_L21 Z hu0 (fun σ22 x23 H locs ls hS hl h => ?_) FU _ _ _ _ _ _ hS (lv_sub hl [2, 3, 1, 0] rfl) h
      refine lv_iconst (v := (0 : Int32)) hx hb dX1_runs_85 (by decide) ?_
      refine lv_istore_n (lv' := [(3, .int (0 : Int32)), (0, .ref (ad 0)), (1, .int v1), (2, .int x23)]) hx hb dX1_runs_86 rfl hl (by decide) rfl (fun ls hl => ?_)
      refine w_X1_runs_L87 Z hu0 (fun σ36 x37 H locs ls hS hl h => ?_) FU _ _ _ _ _ _ hS (lv_sub hl [1, 2, 3, 0] rfl) h
      refine lv_aload_n hx hb dX1_runs_138 rfl (lv_at hl 0 rfl) ?_
      refine h_getC (n := 18) (j := 18) (sh := (1, 8)) Z hS cls_0 hu0 (by decide) rfl rfl rfl fl_X1_66_0 dX1_runs_139 (fun hc38 => ?_)
      refine lv_iload_n hx hb dX1_runs_142 rfl (lv_at hl 1 rfl) ?_
      refine lv_dup2_11 hx hb dX1_runs_143 rfl rfl ?_
      refine h_iald Z hS hc38 dX1_runs_144 h (fun x39 h => ?_)
      refine lv_iload_n hx hb dX1_runs_145 rfl (lv_at hl 2 rfl) ?_
      refine lv_iadd hx hb dX1_runs_146 ?_
      refine h_iast Z hS hc38 dX1_runs_147 h (fun σ40 H locs hS h => ?_)
      refine lv_iinc (v := (v1 + (1 : Int32))) (lv' := [(1, .int (v1 + (1 : Int32))), (0, .ref (ad 0)), (2, .int x37)]) hx hb dX1_runs_148 hl (k := 1) rfl rfl (by decide) rfl (fun ls hl => ?_)
      refine lv_goto (tgt := 6) hx hb dX1_runs_151 (by decide) ?_
      exact ih _ _ _ _ _ hS (lv_sub hl [1, 0] rfl) h
set_option maxRecDepth 100000 in
set_option maxHeartbeats 4000000 in
theorem w_X1_runs_L156 (Z : Cz D (Ew D A) A cX1_runs 4 none RX1 p s m args meth c) (hu0 : S 0 = (10, 0)) {r : Mem} {k192 : Mem → Option Mem}
    (hk192 : ∀ (σ : Mem)  (H : Heap) (locs : List Loc) (ls : Array Slot), St D A ad S σ s.heap H locs → lv_has ls 4 [(0, .ref (ad 0))] → k192 σ = some r → W p l e rm_X1_runs s m args below meth c H locs 0 0 (MQ below (QG D A ad S none r) args s 0 0 A) (F0 m 192 ls [])) :
    ∀ (n : Nat) (σ : Mem) (v1 : Int32) (H : Heap) (locs : List Loc) (ls : Array Slot), St D A ad S σ s.heap H locs → lv_has ls 4 [(0, .ref (ad 0)), (1, .int v1)] → f_X1_runs_L156 k192 n σ v1 = some r → W p l e rm_X1_runs s m args below meth c H locs 0 0 (MQ below (QG D A ad S none r) args s 0 0 A) (F0 m 156 ls []) := by
  have hx := Z.1
  have hb := Z.2.1
  have hown := Z.2.2.2.2.2.1
  have hts := Z.2.2.2.2.2.2.1
  intro n
  induction n with
  | zero => intro σ v1 H locs ls hS hl h; cases h
  | succ n ih =>
    intro σ v1 H locs ls hS hl h
    unfold f_X1_runs_L156 at h
    refine lv_iload_n hx hb dX1_runs_156 rfl (lv_at hl 1 rfl) ?_
    refine lv_aload_n hx hb dX1_runs_157 rfl (lv_at hl 0 rfl) ?_
    refine h_getI Z hS cls_0 hu0 (by decide) rfl fl_X1_140_0 dX1_runs_158 h (fun x42 h => ?_)
    refine lv_icmp_ge (tgt := 192) hx hb dX1_runs_161 (by decide) (fun c43 => ?_) (fun c43 => ?_)
    · have h := if_t h c43
      exact hk192 _ _ _ _ hS (lv_sub hl [0] rfl) h
    · have h := if_f h c43
      refine lv_aload_n hx hb dX1_runs_164 rfl (lv_at hl 0 rfl) ?_
      refine h_getC (n := 3) (j := 3) (sh := (5, 8)) Z hS cls_0 hu0 (by decide) rfl rfl rfl fl_X1_24_0 dX1_runs_165 (fun hc44 => ?_)
      refine lv_iload_n hx hb dX1_runs_168 rfl (lv_at hl 1 rfl) ?_
      refine h_aldN (sh := (12, 0)) Z hS hc44 (by decide) (by decide) rfl dX1_runs_169 h (fun j45 hj45 h => ?_)
      refine h_getI Z hS cls_2 hj45 (by decide) rfl fl_X1_216_2 dX1_runs_170 h (fun x46 h => ?_)
      refine lv_if_le (tgt := 186) hx hb dX1_runs_173 (by decide) (fun c47 => ?_) (fun c47 => ?_)
      · have h := if_t h c47
        refine lv_iinc (v := (v1 + (1 : Int32))) (lv' := [(1, .int (v1 + (1 : Int32))), (0, .ref (ad 0))]) hx hb dX1_runs_186 hl (k := 1) rfl rfl (by decide) rfl (fun ls hl => ?_)
        refine lv_goto (tgt := 156) hx hb dX1_runs_189 (by decide) ?_
        exact ih _ _ _ _ _ hS (lv_sub hl [1, 0] rfl) h
      · have h := if_f h c47
        refine lv_aload_n hx hb dX1_runs_176 rfl (lv_at hl 0 rfl) ?_
        refine lv_aload_n hx hb dX1_runs_177 rfl (lv_at hl 0 rfl) ?_
        refine h_getC (n := 3) (j := 3) (sh := (5, 8)) Z hS cls_0 hu0 (by decide) rfl rfl rfl fl_X1_24_0 dX1_runs_178 (fun hc48 => ?_)
        refine lv_iload_n hx hb dX1_runs_181 rfl (lv_at hl 1 rfl) ?_
        refine h_aldN (sh := (12, 0)) Z hS hc48 (by decide) (by decide) rfl dX1_runs_182 h (fun j49 hj49 h => ?_)
        refine h_cm hS h (fun z hz => h_rV (rest := []) Z hS hu0 rfl v_X1_333 (w_X1_goes hu0 hj49 hz) rfl rfl ⟨by decide, by decide⟩ rfl hl.1 rfl (Nat.le_of_ble_eq_true rfl) (Nat.zero_le _) (Nat.zero_le _) dX1_runs_183) (fun σ50 H locs hS h => ?_)
        refine lv_iinc (v := (v1 + (1 : Int32))) (lv' := [(1, .int (v1 + (1 : Int32))), (0, .ref (ad 0))]) hx hb dX1_runs_186 hl (k := 1) rfl rfl (by decide) rfl (fun ls hl => ?_)
        refine lv_goto (tgt := 156) hx hb dX1_runs_189 (by decide) ?_
        exact ih _ _ _ _ _ hS (lv_sub hl [1, 0] rfl) h
set_option maxRecDepth 100000 in
set_option maxHeartbeats 4000000 in
theorem w_X1_runs_L194 (Z : Cz D (Ew D A) A cX1_runs 4 none RX1 p s m args meth c) (hu0 : S 0 = (10, 0)) {r : Mem} {k267 : Mem → Option Mem}
    (hk267 : ∀ (σ : Mem)  (H : Heap) (locs : List Loc) (ls : Array Slot), St D A ad S σ s.heap H locs → lv_has ls 4 [] → k267 σ = some r → W p l e rm_X1_runs s m args below meth c H locs 0 0 (MQ below (QG D A ad S none r) args s 0 0 A) (F0 m 267 ls [])) :
    ∀ (n : Nat) (σ : Mem) (v1 : Int32) (H : Heap) (locs : List Loc) (ls : Array Slot), St D A ad S σ s.heap H locs → lv_has ls 4 [(0, .ref (ad 0)), (1, .int v1)] → f_X1_runs_L194 k267 n σ v1 = some r → W p l e rm_X1_runs s m args below meth c H locs 0 0 (MQ below (QG D A ad S none r) args s 0 0 A) (F0 m 194 ls []) := by
  have hx := Z.1
  have hb := Z.2.1
  have hown := Z.2.2.2.2.2.1
  have hts := Z.2.2.2.2.2.2.1
  intro n
  induction n with
  | zero => intro σ v1 H locs ls hS hl h; cases h
  | succ n ih =>
    intro σ v1 H locs ls hS hl h
    unfold f_X1_runs_L194 at h
    refine lv_iload_n hx hb dX1_runs_194 rfl (lv_at hl 1 rfl) ?_
    refine lv_aload_n hx hb dX1_runs_195 rfl (lv_at hl 0 rfl) ?_
    refine h_getI Z hS cls_0 hu0 (by decide) rfl fl_X1_140_0 dX1_runs_196 h (fun x52 h => ?_)
    refine lv_icmp_ge (tgt := 267) hx hb dX1_runs_199 (by decide) (fun c53 => ?_) (fun c53 => ?_)
    · have h := if_t h c53
      exact hk267 _ _ _ _ hS (lv_sub hl [] rfl) h
    · have h := if_f h c53
      refine lv_aload_n hx hb dX1_runs_202 rfl (lv_at hl 0 rfl) ?_
      refine h_getC (n := 3) (j := 3) (sh := (5, 8)) Z hS cls_0 hu0 (by decide) rfl rfl rfl fl_X1_24_0 dX1_runs_203 (fun hc54 => ?_)
      refine lv_iload_n hx hb dX1_runs_206 rfl (lv_at hl 1 rfl) ?_
      refine h_aldN (sh := (12, 0)) Z hS hc54 (by decide) (by decide) rfl dX1_runs_207 h (fun j55 hj55 h => ?_)
      refine h_getI Z hS cls_2 hj55 (by decide) rfl fl_X1_193_2 dX1_runs_208 h (fun x56 h => ?_)
      refine lv_iconst (v := (1 : Int32)) hx hb dX1_runs_211 (by decide) ?_
      refine lv_icmp_ne (tgt := 261) hx hb dX1_runs_212 (by decide) (fun c57 => ?_) (fun c57 => ?_)
      · have h := if_f h c57
        refine lv_iinc (v := (v1 + (1 : Int32))) (lv' := [(1, .int (v1 + (1 : Int32))), (0, .ref (ad 0))]) hx hb dX1_runs_261 hl (k := 1) rfl rfl (by decide) rfl (fun ls hl => ?_)
        refine lv_goto (tgt := 194) hx hb dX1_runs_264 (by decide) ?_
        exact ih _ _ _ _ _ hS (lv_sub hl [1, 0] rfl) h
      · have h := if_t h c57
        refine lv_aload_n hx hb dX1_runs_215 rfl (lv_at hl 0 rfl) ?_
        refine h_getC (n := 3) (j := 3) (sh := (5, 8)) Z hS cls_0 hu0 (by decide) rfl rfl rfl fl_X1_24_0 dX1_runs_216 (fun hc58 => ?_)
        refine lv_iload_n hx hb dX1_runs_219 rfl (lv_at hl 1 rfl) ?_
        refine h_aldN (sh := (12, 0)) Z hS hc58 (by decide) (by decide) rfl dX1_runs_220 h (fun j59 hj59 h => ?_)
        refine h_ci hS h (fun z hz => h_rV (rest := []) Z hS hj59 rfl v_X1_209 (w_X3_isOpen hj59 hz) rfl rfl ⟨by decide, by decide⟩ rfl hl.1 rfl (Nat.le_of_ble_eq_true rfl) (Nat.zero_le _) (Nat.zero_le _) dX1_runs_221) (fun x60 H locs hS h => ?_)
        refine lv_if_ne (tgt := 261) hx hb dX1_runs_224 (by decide) (fun c61 => ?_) (fun c61 => ?_)
        · have h := if_f h c61
          refine lv_iinc (v := (v1 + (1 : Int32))) (lv' := [(1, .int (v1 + (1 : Int32))), (0, .ref (ad 0))]) hx hb dX1_runs_261 hl (k := 1) rfl rfl (by decide) rfl (fun ls hl => ?_)
          refine lv_goto (tgt := 194) hx hb dX1_runs_264 (by decide) ?_
          exact ih _ _ _ _ _ hS (lv_sub hl [1, 0] rfl) h
        · have h := if_t h c61
          refine lv_aload_n hx hb dX1_runs_227 rfl (lv_at hl 0 rfl) ?_
          refine h_getC (n := 3) (j := 3) (sh := (5, 8)) Z hS cls_0 hu0 (by decide) rfl rfl rfl fl_X1_24_0 dX1_runs_228 (fun hc62 => ?_)
          refine lv_iload_n hx hb dX1_runs_231 rfl (lv_at hl 1 rfl) ?_
          refine h_aldN (sh := (12, 0)) Z hS hc62 (by decide) (by decide) rfl dX1_runs_232 h (fun j63 hj63 h => ?_)
          refine h_getI Z hS cls_2 hj63 (by decide) rfl fl_X1_337_2 dX1_runs_233 h (fun x64 h => ?_)
          refine lv_if_ne (tgt := 261) hx hb dX1_runs_236 (by decide) (fun c65 => ?_) (fun c65 => ?_)
          · have h := if_f h c65
            refine lv_iinc (v := (v1 + (1 : Int32))) (lv' := [(1, .int (v1 + (1 : Int32))), (0, .ref (ad 0))]) hx hb dX1_runs_261 hl (k := 1) rfl rfl (by decide) rfl (fun ls hl => ?_)
            refine lv_goto (tgt := 194) hx hb dX1_runs_264 (by decide) ?_
            exact ih _ _ _ _ _ hS (lv_sub hl [1, 0] rfl) h
          · have h := if_t h c65
            refine lv_aload_n hx hb dX1_runs_239 rfl (lv_at hl 0 rfl) ?_
            refine h_getC (n := 3) (j := 3) (sh := (5, 8)) Z hS cls_0 hu0 (by decide) rfl rfl rfl fl_X1_24_0 dX1_runs_240 (fun hc66 => ?_)
            refine lv_iload_n hx hb dX1_runs_243 rfl (lv_at hl 1 rfl) ?_
            refine h_aldN (sh := (12, 0)) Z hS hc66 (by decide) (by decide) rfl dX1_runs_244 h (fun j67 hj67 h => ?_)
            refine h_getI Z hS cls_2 hj67 (by decide) rfl fl_X1_216_2 dX1_runs_245 h (fun x68 h => ?_)
            refine lv_if_ne (tgt := 261) hx hb dX1_runs_248 (by decide) (fun c69 => ?_) (fun c69 => ?_)
            · have h := if_f h c69
              refine lv_iinc (v := (v1 + (1 : Int32))) (lv' := [(1, .int (v1 + (1 : Int32))), (0, .ref (ad 0))]) hx hb dX1_runs_261 hl (k := 1) rfl rfl (by decide) rfl (fun ls hl => ?_)
              refine lv_goto (tgt := 194) hx hb dX1_runs_264 (by decide) ?_
              exact ih _ _ _ _ _ hS (lv_sub hl [1, 0] rfl) h
            · have h := if_t h c69
              refine lv_aload_n hx hb dX1_runs_251 rfl (lv_at hl 0 rfl) ?_
              refine h_getC (n := 3) (j := 3) (sh := (5, 8)) Z hS cls_0 hu0 (by decide) rfl rfl rfl fl_X1_24_0 dX1_runs_252 (fun hc70 => ?_)
              refine lv_iload_n hx hb dX1_runs_255 rfl (lv_at hl 1 rfl) ?_
              refine h_aldN (sh := (12, 0)) Z hS hc70 (by decide) (by decide) rfl dX1_runs_256 h (fun j71 hj71 h => ?_)
              refine lv_iconst (v := (4 : Int32)) hx hb dX1_runs_257 (by decide) ?_
              refine h_putI Z hS cls_2 hj71 (by decide) rfl rfl rfl fl_X1_193_2 dX1_runs_258 h (fun σ72 H locs hS h => ?_)
              refine lv_iinc (v := (v1 + (1 : Int32))) (lv' := [(1, .int (v1 + (1 : Int32))), (0, .ref (ad 0))]) hx hb dX1_runs_261 hl (k := 1) rfl rfl (by decide) rfl (fun ls hl => ?_)
              refine lv_goto (tgt := 194) hx hb dX1_runs_264 (by decide) ?_
              exact ih _ _ _ _ _ hS (lv_sub hl [1, 0] rfl) h
set_option maxRecDepth 100000 in
set_option maxHeartbeats 4000000 in
theorem w_X1_runs (hi0 : S 0 = (10, 0)) {r : Mem} (h : f_X1_runs σ = some r) : Met l yX1_runs (ws_ yX1_runs cX1_runs 4 none) rm_X1_runs (va_Pc [.ref (ad 0)] (PreG D (Ew D A) A ad S σ)) (QG D A ad S none r) 0 0 A := by
  refine y_met (by decide) (Nat.le_of_ble_eq_true rfl) (fun p e s m below meth c ls Z hS hl => ?_)
  have hx := Z.1
  have hb := Z.2.1
  have hown := Z.2.2.2.2.2.1
  have hts := Z.2.2.2.2.2.2.1
  unfold f_X1_runs at h
  refine lv_aload_n hx hb dX1_runs_0 rfl (lv_at hl 0 rfl) ?_
  refine h_cm hS h (fun z hz => h_rV (rest := []) Z hS hi0 rfl v_X1_327 (w_X1_parts hi0 hz) rfl rfl ⟨by decide, by decide⟩ rfl hl.1 rfl (Nat.le_of_ble_eq_true rfl) (Nat.zero_le _) (Nat.zero_le _) dX1_runs_1) (fun σ1 H locs hS h => ?_)
  refine lv_iconst (v := (0 : Int32)) hx hb dX1_runs_4 (by decide) ?_
  refine lv_istore_n (lv' := [(1, .int (0 : Int32)), (0, .ref (ad 0))]) hx hb dX1_runs_5 rfl hl (by decide) rfl (fun ls hl => ?_)
  refine w_X1_runs_L6 Z hi0 (fun σ41 H locs ls hS hl h => ?_) FU _ _ _ _ _ hS (lv_sub hl [1, 0] rfl) h
  refine lv_iconst (v := (0 : Int32)) hx hb dX1_runs_154 (by decide) ?_
  refine lv_istore_n (lv' := [(1, .int (0 : Int32)), (0, .ref (ad 0))]) hx hb dX1_runs_155 rfl hl (by decide) rfl (fun ls hl => ?_)
  refine w_X1_runs_L156 Z hi0 (fun σ51 H locs ls hS hl h => ?_) FU _ _ _ _ _ hS (lv_sub hl [1, 0] rfl) h
  refine lv_iconst (v := (0 : Int32)) hx hb dX1_runs_192 (by decide) ?_
  refine lv_istore_n (lv' := [(1, .int (0 : Int32)), (0, .ref (ad 0))]) hx hb dX1_runs_193 rfl hl (by decide) rfl (fun ls hl => ?_)
  refine w_X1_runs_L194 Z hi0 (fun σ73 H locs ls hS hl h => ?_) FU _ _ _ _ _ hS (lv_sub hl [1, 0] rfl) h
  exact h_vret Z hS dX1_runs_267 h
end
theorem dX1_hour_0 : decode cX1_hour 0 = .ok (.aload_n 0, 1) := by decide +kernel
theorem dX1_hour_1 : decode cX1_hour 1 = .ok (.dup, 1) := by decide +kernel
theorem dX1_hour_2 : decode cX1_hour 2 = .ok (.getfield 299, 3) := by decide +kernel
theorem dX1_hour_5 : decode cX1_hour 5 = .ok (.iconst 1, 1) := by decide +kernel
theorem dX1_hour_6 : decode cX1_hour 6 = .ok (.iadd, 1) := by decide +kernel
theorem dX1_hour_7 : decode cX1_hour 7 = .ok (.putfield 299, 3) := by decide +kernel
theorem dX1_hour_10 : decode cX1_hour 10 = .ok (.iconst 0, 1) := by decide +kernel
theorem dX1_hour_11 : decode cX1_hour 11 = .ok (.istore_n 1, 1) := by decide +kernel
theorem dX1_hour_12 : decode cX1_hour 12 = .ok (.iload_n 1, 1) := by decide +kernel
theorem dX1_hour_13 : decode cX1_hour 13 = .ok (.aload_n 0, 1) := by decide +kernel
theorem dX1_hour_14 : decode cX1_hour 14 = .ok (.getfield 140, 3) := by decide +kernel
theorem dX1_hour_17 : decode cX1_hour 17 = .ok (.if_icmp .ge 14, 3) := by decide +kernel
theorem dX1_hour_20 : decode cX1_hour 20 = .ok (.aload_n 0, 1) := by decide +kernel
theorem dX1_hour_21 : decode cX1_hour 21 = .ok (.iload_n 1, 1) := by decide +kernel
theorem dX1_hour_22 : decode cX1_hour 22 = .ok (.invokevirtual 305, 3) := by decide +kernel
theorem dX1_hour_25 : decode cX1_hour 25 = .ok (.iinc 1 1, 3) := by decide +kernel
theorem dX1_hour_28 : decode cX1_hour 28 = .ok (.goto (-16), 3) := by decide +kernel
theorem dX1_hour_31 : decode cX1_hour 31 = .ok (.iconst 0, 1) := by decide +kernel
theorem dX1_hour_32 : decode cX1_hour 32 = .ok (.istore_n 1, 1) := by decide +kernel
theorem dX1_hour_33 : decode cX1_hour 33 = .ok (.iload_n 1, 1) := by decide +kernel
theorem dX1_hour_34 : decode cX1_hour 34 = .ok (.aload_n 0, 1) := by decide +kernel
theorem dX1_hour_35 : decode cX1_hour 35 = .ok (.getfield 140, 3) := by decide +kernel
theorem dX1_hour_38 : decode cX1_hour 38 = .ok (.if_icmp .ge 45, 3) := by decide +kernel
theorem dX1_hour_41 : decode cX1_hour 41 = .ok (.aload_n 0, 1) := by decide +kernel
theorem dX1_hour_42 : decode cX1_hour 42 = .ok (.getfield 24, 3) := by decide +kernel
theorem dX1_hour_45 : decode cX1_hour 45 = .ok (.iload_n 1, 1) := by decide +kernel
theorem dX1_hour_46 : decode cX1_hour 46 = .ok (.aaload, 1) := by decide +kernel
theorem dX1_hour_47 : decode cX1_hour 47 = .ok (.getfield 193, 3) := by decide +kernel
theorem dX1_hour_50 : decode cX1_hour 50 = .ok (.iconst 2, 1) := by decide +kernel
theorem dX1_hour_51 : decode cX1_hour 51 = .ok (.if_icmp .ne 26, 3) := by decide +kernel
theorem dX1_hour_54 : decode cX1_hour 54 = .ok (.aload_n 0, 1) := by decide +kernel
theorem dX1_hour_55 : decode cX1_hour 55 = .ok (.getfield 24, 3) := by decide +kernel
theorem dX1_hour_58 : decode cX1_hour 58 = .ok (.iload_n 1, 1) := by decide +kernel
theorem dX1_hour_59 : decode cX1_hour 59 = .ok (.aaload, 1) := by decide +kernel
theorem dX1_hour_60 : decode cX1_hour 60 = .ok (.aload_n 0, 1) := by decide +kernel
theorem dX1_hour_61 : decode cX1_hour 61 = .ok (.getfield 18, 3) := by decide +kernel
theorem dX1_hour_64 : decode cX1_hour 64 = .ok (.aload_n 0, 1) := by decide +kernel
theorem dX1_hour_65 : decode cX1_hour 65 = .ok (.getfield 69, 3) := by decide +kernel
theorem dX1_hour_68 : decode cX1_hour 68 = .ok (.iload_n 1, 1) := by decide +kernel
theorem dX1_hour_69 : decode cX1_hour 69 = .ok (.iaload, 1) := by decide +kernel
theorem dX1_hour_70 : decode cX1_hour 70 = .ok (.aload_n 0, 1) := by decide +kernel
theorem dX1_hour_71 : decode cX1_hour 71 = .ok (.getfield 51, 3) := by decide +kernel
theorem dX1_hour_74 : decode cX1_hour 74 = .ok (.invokevirtual 308, 3) := by decide +kernel
theorem dX1_hour_77 : decode cX1_hour 77 = .ok (.iinc 1 1, 3) := by decide +kernel
theorem dX1_hour_80 : decode cX1_hour 80 = .ok (.goto (-47), 3) := by decide +kernel
theorem dX1_hour_83 : decode cX1_hour 83 = .ok (.iconst 0, 1) := by decide +kernel
theorem dX1_hour_84 : decode cX1_hour 84 = .ok (.istore_n 1, 1) := by decide +kernel
theorem dX1_hour_85 : decode cX1_hour 85 = .ok (.iload_n 1, 1) := by decide +kernel
theorem dX1_hour_86 : decode cX1_hour 86 = .ok (.aload_n 0, 1) := by decide +kernel
theorem dX1_hour_87 : decode cX1_hour 87 = .ok (.getfield 140, 3) := by decide +kernel
theorem dX1_hour_90 : decode cX1_hour 90 = .ok (.if_icmp .ge 63, 3) := by decide +kernel
theorem dX1_hour_93 : decode cX1_hour 93 = .ok (.aload_n 0, 1) := by decide +kernel
theorem dX1_hour_94 : decode cX1_hour 94 = .ok (.getfield 72, 3) := by decide +kernel
theorem dX1_hour_97 : decode cX1_hour 97 = .ok (.iload_n 1, 1) := by decide +kernel
theorem dX1_hour_98 : decode cX1_hour 98 = .ok (.aload_n 0, 1) := by decide +kernel
theorem dX1_hour_99 : decode cX1_hour 99 = .ok (.getfield 24, 3) := by decide +kernel
theorem dX1_hour_102 : decode cX1_hour 102 = .ok (.iload_n 1, 1) := by decide +kernel
theorem dX1_hour_103 : decode cX1_hour 103 = .ok (.aaload, 1) := by decide +kernel
theorem dX1_hour_104 : decode cX1_hour 104 = .ok (.getfield 193, 3) := by decide +kernel
theorem dX1_hour_107 : decode cX1_hour 107 = .ok (.iconst 1, 1) := by decide +kernel
theorem dX1_hour_108 : decode cX1_hour 108 = .ok (.if_icmp .ne 7, 3) := by decide +kernel
theorem dX1_hour_111 : decode cX1_hour 111 = .ok (.iconst 1, 1) := by decide +kernel
theorem dX1_hour_112 : decode cX1_hour 112 = .ok (.goto 4, 3) := by decide +kernel
theorem dX1_hour_115 : decode cX1_hour 115 = .ok (.iconst 0, 1) := by decide +kernel
theorem dX1_hour_116 : decode cX1_hour 116 = .ok (.iastore, 1) := by decide +kernel
theorem dX1_hour_117 : decode cX1_hour 117 = .ok (.aload_n 0, 1) := by decide +kernel
theorem dX1_hour_118 : decode cX1_hour 118 = .ok (.getfield 24, 3) := by decide +kernel
theorem dX1_hour_121 : decode cX1_hour 121 = .ok (.iload_n 1, 1) := by decide +kernel
theorem dX1_hour_122 : decode cX1_hour 122 = .ok (.aaload, 1) := by decide +kernel
theorem dX1_hour_123 : decode cX1_hour 123 = .ok (.iconst 0, 1) := by decide +kernel
theorem dX1_hour_124 : decode cX1_hour 124 = .ok (.putfield 216, 3) := by decide +kernel
theorem dX1_hour_127 : decode cX1_hour 127 = .ok (.aload_n 0, 1) := by decide +kernel
theorem dX1_hour_128 : decode cX1_hour 128 = .ok (.getfield 24, 3) := by decide +kernel
theorem dX1_hour_131 : decode cX1_hour 131 = .ok (.iload_n 1, 1) := by decide +kernel
theorem dX1_hour_132 : decode cX1_hour 132 = .ok (.aaload, 1) := by decide +kernel
theorem dX1_hour_133 : decode cX1_hour 133 = .ok (.iconst 0, 1) := by decide +kernel
theorem dX1_hour_134 : decode cX1_hour 134 = .ok (.putfield 219, 3) := by decide +kernel
theorem dX1_hour_137 : decode cX1_hour 137 = .ok (.aload_n 0, 1) := by decide +kernel
theorem dX1_hour_138 : decode cX1_hour 138 = .ok (.getfield 24, 3) := by decide +kernel
theorem dX1_hour_141 : decode cX1_hour 141 = .ok (.iload_n 1, 1) := by decide +kernel
theorem dX1_hour_142 : decode cX1_hour 142 = .ok (.aaload, 1) := by decide +kernel
theorem dX1_hour_143 : decode cX1_hour 143 = .ok (.iconst 0, 1) := by decide +kernel
theorem dX1_hour_144 : decode cX1_hour 144 = .ok (.putfield 222, 3) := by decide +kernel
theorem dX1_hour_147 : decode cX1_hour 147 = .ok (.iinc 1 1, 3) := by decide +kernel
theorem dX1_hour_150 : decode cX1_hour 150 = .ok (.goto (-65), 3) := by decide +kernel
theorem dX1_hour_153 : decode cX1_hour 153 = .ok (.iconst 0, 1) := by decide +kernel
theorem dX1_hour_154 : decode cX1_hour 154 = .ok (.istore_n 1, 1) := by decide +kernel
theorem dX1_hour_155 : decode cX1_hour 155 = .ok (.iload_n 1, 1) := by decide +kernel
theorem dX1_hour_156 : decode cX1_hour 156 = .ok (.bipush 8, 2) := by decide +kernel
theorem dX1_hour_158 : decode cX1_hour 158 = .ok (.if_icmp .ge 23, 3) := by decide +kernel
theorem dX1_hour_161 : decode cX1_hour 161 = .ok (.aload_n 0, 1) := by decide +kernel
theorem dX1_hour_162 : decode cX1_hour 162 = .ok (.getfield 63, 3) := by decide +kernel
theorem dX1_hour_165 : decode cX1_hour 165 = .ok (.iload_n 1, 1) := by decide +kernel
theorem dX1_hour_166 : decode cX1_hour 166 = .ok (.iconst 0, 1) := by decide +kernel
theorem dX1_hour_167 : decode cX1_hour 167 = .ok (.iastore, 1) := by decide +kernel
theorem dX1_hour_168 : decode cX1_hour 168 = .ok (.aload_n 0, 1) := by decide +kernel
theorem dX1_hour_169 : decode cX1_hour 169 = .ok (.getfield 66, 3) := by decide +kernel
theorem dX1_hour_172 : decode cX1_hour 172 = .ok (.iload_n 1, 1) := by decide +kernel
theorem dX1_hour_173 : decode cX1_hour 173 = .ok (.iconst 0, 1) := by decide +kernel
theorem dX1_hour_174 : decode cX1_hour 174 = .ok (.iastore, 1) := by decide +kernel
theorem dX1_hour_175 : decode cX1_hour 175 = .ok (.iinc 1 1, 3) := by decide +kernel
theorem dX1_hour_178 : decode cX1_hour 178 = .ok (.goto (-23), 3) := by decide +kernel
theorem dX1_hour_181 : decode cX1_hour 181 = .ok (.aload_n 0, 1) := by decide +kernel
theorem dX1_hour_182 : decode cX1_hour 182 = .ok (.getfield 294, 3) := by decide +kernel
theorem dX1_hour_185 : decode cX1_hour 185 = .ok (.ifCond .le 7, 3) := by decide +kernel
theorem dX1_hour_188 : decode cX1_hour 188 = .ok (.aload_n 0, 1) := by decide +kernel
theorem dX1_hour_189 : decode cX1_hour 189 = .ok (.invokevirtual 312, 3) := by decide +kernel
theorem dX1_hour_192 : decode cX1_hour 192 = .ok (.iconst 0, 1) := by decide +kernel
theorem dX1_hour_193 : decode cX1_hour 193 = .ok (.istore_n 1, 1) := by decide +kernel
theorem dX1_hour_194 : decode cX1_hour 194 = .ok (.iload_n 1, 1) := by decide +kernel
theorem dX1_hour_195 : decode cX1_hour 195 = .ok (.aload_n 0, 1) := by decide +kernel
theorem dX1_hour_196 : decode cX1_hour 196 = .ok (.getfield 140, 3) := by decide +kernel
theorem dX1_hour_199 : decode cX1_hour 199 = .ok (.if_icmp .ge 51, 3) := by decide +kernel
theorem dX1_hour_202 : decode cX1_hour 202 = .ok (.aload_n 0, 1) := by decide +kernel
theorem dX1_hour_203 : decode cX1_hour 203 = .ok (.getfield 24, 3) := by decide +kernel
theorem dX1_hour_206 : decode cX1_hour 206 = .ok (.iload_n 1, 1) := by decide +kernel
theorem dX1_hour_207 : decode cX1_hour 207 = .ok (.aaload, 1) := by decide +kernel
theorem dX1_hour_208 : decode cX1_hour 208 = .ok (.dup, 1) := by decide +kernel
theorem dX1_hour_209 : decode cX1_hour 209 = .ok (.getfield 196, 3) := by decide +kernel
theorem dX1_hour_212 : decode cX1_hour 212 = .ok (.aload_n 0, 1) := by decide +kernel
theorem dX1_hour_213 : decode cX1_hour 213 = .ok (.getfield 72, 3) := by decide +kernel
theorem dX1_hour_216 : decode cX1_hour 216 = .ok (.iload_n 1, 1) := by decide +kernel
theorem dX1_hour_217 : decode cX1_hour 217 = .ok (.iaload, 1) := by decide +kernel
theorem dX1_hour_218 : decode cX1_hour 218 = .ok (.iconst 1, 1) := by decide +kernel
theorem dX1_hour_219 : decode cX1_hour 219 = .ok (.if_icmp .eq 16, 3) := by decide +kernel
theorem dX1_hour_222 : decode cX1_hour 222 = .ok (.aload_n 0, 1) := by decide +kernel
theorem dX1_hour_223 : decode cX1_hour 223 = .ok (.getfield 24, 3) := by decide +kernel
theorem dX1_hour_226 : decode cX1_hour 226 = .ok (.iload_n 1, 1) := by decide +kernel
theorem dX1_hour_227 : decode cX1_hour 227 = .ok (.aaload, 1) := by decide +kernel
theorem dX1_hour_228 : decode cX1_hour 228 = .ok (.getfield 193, 3) := by decide +kernel
theorem dX1_hour_231 : decode cX1_hour 231 = .ok (.iconst 3, 1) := by decide +kernel
theorem dX1_hour_232 : decode cX1_hour 232 = .ok (.if_icmp .ne 7, 3) := by decide +kernel
theorem dX1_hour_235 : decode cX1_hour 235 = .ok (.iconst 1, 1) := by decide +kernel
theorem dX1_hour_236 : decode cX1_hour 236 = .ok (.goto 4, 3) := by decide +kernel
theorem dX1_hour_239 : decode cX1_hour 239 = .ok (.iconst 0, 1) := by decide +kernel
theorem dX1_hour_240 : decode cX1_hour 240 = .ok (.iadd, 1) := by decide +kernel
theorem dX1_hour_241 : decode cX1_hour 241 = .ok (.putfield 196, 3) := by decide +kernel
theorem dX1_hour_244 : decode cX1_hour 244 = .ok (.iinc 1 1, 3) := by decide +kernel
theorem dX1_hour_247 : decode cX1_hour 247 = .ok (.goto (-53), 3) := by decide +kernel
theorem dX1_hour_250 : decode cX1_hour 250 = .ok (.iconst 0, 1) := by decide +kernel
theorem dX1_hour_251 : decode cX1_hour 251 = .ok (.istore_n 1, 1) := by decide +kernel
theorem dX1_hour_252 : decode cX1_hour 252 = .ok (.iload_n 1, 1) := by decide +kernel
theorem dX1_hour_253 : decode cX1_hour 253 = .ok (.bipush 8, 2) := by decide +kernel
theorem dX1_hour_255 : decode cX1_hour 255 = .ok (.if_icmp .ge 117, 3) := by decide +kernel
theorem dX1_hour_258 : decode cX1_hour 258 = .ok (.iconst 3, 1) := by decide +kernel
theorem dX1_hour_259 : decode cX1_hour 259 = .ok (.bipush 8, 2) := by decide +kernel
theorem dX1_hour_261 : decode cX1_hour 261 = .ok (.aload_n 0, 1) := by decide +kernel
theorem dX1_hour_262 : decode cX1_hour 262 = .ok (.getfield 299, 3) := by decide +kernel
theorem dX1_hour_265 : decode cX1_hour 265 = .ok (.imul, 1) := by decide +kernel
theorem dX1_hour_266 : decode cX1_hour 266 = .ok (.iload_n 1, 1) := by decide +kernel
theorem dX1_hour_267 : decode cX1_hour 267 = .ok (.iadd, 1) := by decide +kernel
theorem dX1_hour_268 : decode cX1_hour 268 = .ok (.imul, 1) := by decide +kernel
theorem dX1_hour_269 : decode cX1_hour 269 = .ok (.istore_n 2, 1) := by decide +kernel
theorem dX1_hour_270 : decode cX1_hour 270 = .ok (.aload_n 0, 1) := by decide +kernel
theorem dX1_hour_271 : decode cX1_hour 271 = .ok (.getfield 76, 3) := by decide +kernel
theorem dX1_hour_274 : decode cX1_hour 274 = .ok (.iload_n 2, 1) := by decide +kernel
theorem dX1_hour_275 : decode cX1_hour 275 = .ok (.aload_n 0, 1) := by decide +kernel
theorem dX1_hour_276 : decode cX1_hour 276 = .ok (.getfield 294, 3) := by decide +kernel
theorem dX1_hour_279 : decode cX1_hour 279 = .ok (.ifCond .le 12, 3) := by decide +kernel
theorem dX1_hour_282 : decode cX1_hour 282 = .ok (.aload_n 0, 1) := by decide +kernel
theorem dX1_hour_283 : decode cX1_hour 283 = .ok (.getfield 42, 3) := by decide +kernel
theorem dX1_hour_286 : decode cX1_hour 286 = .ok (.iload_n 1, 1) := by decide +kernel
theorem dX1_hour_287 : decode cX1_hour 287 = .ok (.iaload, 1) := by decide +kernel
theorem dX1_hour_288 : decode cX1_hour 288 = .ok (.goto 4, 3) := by decide +kernel
theorem dX1_hour_291 : decode cX1_hour 291 = .ok (.iconst 0, 1) := by decide +kernel
theorem dX1_hour_292 : decode cX1_hour 292 = .ok (.iastore, 1) := by decide +kernel
theorem dX1_hour_293 : decode cX1_hour 293 = .ok (.aload_n 0, 1) := by decide +kernel
theorem dX1_hour_294 : decode cX1_hour 294 = .ok (.getfield 76, 3) := by decide +kernel
theorem dX1_hour_297 : decode cX1_hour 297 = .ok (.iload_n 2, 1) := by decide +kernel
theorem dX1_hour_298 : decode cX1_hour 298 = .ok (.iconst 1, 1) := by decide +kernel
theorem dX1_hour_299 : decode cX1_hour 299 = .ok (.iadd, 1) := by decide +kernel
theorem dX1_hour_300 : decode cX1_hour 300 = .ok (.aload_n 0, 1) := by decide +kernel
theorem dX1_hour_301 : decode cX1_hour 301 = .ok (.getfield 63, 3) := by decide +kernel
theorem dX1_hour_304 : decode cX1_hour 304 = .ok (.iload_n 1, 1) := by decide +kernel
theorem dX1_hour_305 : decode cX1_hour 305 = .ok (.iaload, 1) := by decide +kernel
theorem dX1_hour_306 : decode cX1_hour 306 = .ok (.iastore, 1) := by decide +kernel
theorem dX1_hour_307 : decode cX1_hour 307 = .ok (.aload_n 0, 1) := by decide +kernel
theorem dX1_hour_308 : decode cX1_hour 308 = .ok (.getfield 76, 3) := by decide +kernel
theorem dX1_hour_311 : decode cX1_hour 311 = .ok (.iload_n 2, 1) := by decide +kernel
theorem dX1_hour_312 : decode cX1_hour 312 = .ok (.iconst 2, 1) := by decide +kernel
theorem dX1_hour_313 : decode cX1_hour 313 = .ok (.iadd, 1) := by decide +kernel
theorem dX1_hour_314 : decode cX1_hour 314 = .ok (.aload_n 0, 1) := by decide +kernel
theorem dX1_hour_315 : decode cX1_hour 315 = .ok (.getfield 66, 3) := by decide +kernel
theorem dX1_hour_318 : decode cX1_hour 318 = .ok (.iload_n 1, 1) := by decide +kernel
theorem dX1_hour_319 : decode cX1_hour 319 = .ok (.iaload, 1) := by decide +kernel
theorem dX1_hour_320 : decode cX1_hour 320 = .ok (.iastore, 1) := by decide +kernel
theorem dX1_hour_321 : decode cX1_hour 321 = .ok (.aload_n 0, 1) := by decide +kernel
theorem dX1_hour_322 : decode cX1_hour 322 = .ok (.getfield 48, 3) := by decide +kernel
theorem dX1_hour_325 : decode cX1_hour 325 = .ok (.iload_n 1, 1) := by decide +kernel
theorem dX1_hour_326 : decode cX1_hour 326 = .ok (.dup2, 1) := by decide +kernel
theorem dX1_hour_327 : decode cX1_hour 327 = .ok (.iaload, 1) := by decide +kernel
theorem dX1_hour_328 : decode cX1_hour 328 = .ok (.aload_n 0, 1) := by decide +kernel
theorem dX1_hour_329 : decode cX1_hour 329 = .ok (.getfield 76, 3) := by decide +kernel
theorem dX1_hour_332 : decode cX1_hour 332 = .ok (.iload_n 2, 1) := by decide +kernel
theorem dX1_hour_333 : decode cX1_hour 333 = .ok (.iaload, 1) := by decide +kernel
theorem dX1_hour_334 : decode cX1_hour 334 = .ok (.iadd, 1) := by decide +kernel
theorem dX1_hour_335 : decode cX1_hour 335 = .ok (.iastore, 1) := by decide +kernel
theorem dX1_hour_336 : decode cX1_hour 336 = .ok (.aload_n 0, 1) := by decide +kernel
theorem dX1_hour_337 : decode cX1_hour 337 = .ok (.getfield 57, 3) := by decide +kernel
theorem dX1_hour_340 : decode cX1_hour 340 = .ok (.iload_n 1, 1) := by decide +kernel
theorem dX1_hour_341 : decode cX1_hour 341 = .ok (.dup2, 1) := by decide +kernel
theorem dX1_hour_342 : decode cX1_hour 342 = .ok (.iaload, 1) := by decide +kernel
theorem dX1_hour_343 : decode cX1_hour 343 = .ok (.aload_n 0, 1) := by decide +kernel
theorem dX1_hour_344 : decode cX1_hour 344 = .ok (.getfield 63, 3) := by decide +kernel
theorem dX1_hour_347 : decode cX1_hour 347 = .ok (.iload_n 1, 1) := by decide +kernel
theorem dX1_hour_348 : decode cX1_hour 348 = .ok (.iaload, 1) := by decide +kernel
theorem dX1_hour_349 : decode cX1_hour 349 = .ok (.iadd, 1) := by decide +kernel
theorem dX1_hour_350 : decode cX1_hour 350 = .ok (.iastore, 1) := by decide +kernel
theorem dX1_hour_351 : decode cX1_hour 351 = .ok (.aload_n 0, 1) := by decide +kernel
theorem dX1_hour_352 : decode cX1_hour 352 = .ok (.getfield 60, 3) := by decide +kernel
theorem dX1_hour_355 : decode cX1_hour 355 = .ok (.iload_n 1, 1) := by decide +kernel
theorem dX1_hour_356 : decode cX1_hour 356 = .ok (.dup2, 1) := by decide +kernel
theorem dX1_hour_357 : decode cX1_hour 357 = .ok (.iaload, 1) := by decide +kernel
theorem dX1_hour_358 : decode cX1_hour 358 = .ok (.aload_n 0, 1) := by decide +kernel
theorem dX1_hour_359 : decode cX1_hour 359 = .ok (.getfield 66, 3) := by decide +kernel
theorem dX1_hour_362 : decode cX1_hour 362 = .ok (.iload_n 1, 1) := by decide +kernel
theorem dX1_hour_363 : decode cX1_hour 363 = .ok (.iaload, 1) := by decide +kernel
theorem dX1_hour_364 : decode cX1_hour 364 = .ok (.iadd, 1) := by decide +kernel
theorem dX1_hour_365 : decode cX1_hour 365 = .ok (.iastore, 1) := by decide +kernel
theorem dX1_hour_366 : decode cX1_hour 366 = .ok (.iinc 1 1, 3) := by decide +kernel
theorem dX1_hour_369 : decode cX1_hour 369 = .ok (.goto (-117), 3) := by decide +kernel
theorem dX1_hour_372 : decode cX1_hour 372 = .ok (.return_, 1) := by decide +kernel
abbrev rm_X1_hour : Room := k2_rm 101 2153
section
variable {p : Program} {l : Launch} {e : Env} {s : State} {m : MethodId} {args : Array Value} {below : List Frame} {meth : Method} {c : Code} {D : gD} {A : Nat → Prop} {ad : Nat → Nat} {S : Nat → Nat × Nat} {σ : Mem}
set_option maxRecDepth 100000 in
set_option maxHeartbeats 4000000 in
theorem w_X1_hour_L12 (Z : Cz D (Ew D A) A cX1_hour 3 none RX1 p s m args meth c) (hu0 : S 0 = (10, 0)) {r : Mem} {k31 : Mem → Option Mem}
    (hk31 : ∀ (σ : Mem)  (H : Heap) (locs : List Loc) (ls : Array Slot), St D A ad S σ s.heap H locs → lv_has ls 3 [(0, .ref (ad 0))] → k31 σ = some r → W p l e rm_X1_hour s m args below meth c H locs 0 0 (MQ below (QG D A ad S none r) args s 0 0 A) (F0 m 31 ls [])) :
    ∀ (n : Nat) (σ : Mem) (v1 : Int32) (H : Heap) (locs : List Loc) (ls : Array Slot), St D A ad S σ s.heap H locs → lv_has ls 3 [(0, .ref (ad 0)), (1, .int v1)] → f_X1_hour_L12 S k31 n σ v1 = some r → W p l e rm_X1_hour s m args below meth c H locs 0 0 (MQ below (QG D A ad S none r) args s 0 0 A) (F0 m 12 ls []) := by
  have hx := Z.1
  have hb := Z.2.1
  have hown := Z.2.2.2.2.2.1
  have hts := Z.2.2.2.2.2.2.1
  intro n
  induction n with
  | zero => intro σ v1 H locs ls hS hl h; cases h
  | succ n ih =>
    intro σ v1 H locs ls hS hl h
    unfold f_X1_hour_L12 at h
    refine lv_iload_n hx hb dX1_hour_12 rfl (lv_at hl 1 rfl) ?_
    refine lv_aload_n hx hb dX1_hour_13 rfl (lv_at hl 0 rfl) ?_
    refine h_getI Z hS cls_0 hu0 (by decide) rfl fl_X1_140_0 dX1_hour_14 h (fun x3 h => ?_)
    refine lv_icmp_ge (tgt := 31) hx hb dX1_hour_17 (by decide) (fun c4 => ?_) (fun c4 => ?_)
    · have h := if_t h c4
      exact hk31 _ _ _ _ hS (lv_sub hl [0] rfl) h
    · have h := if_f h c4
      refine lv_aload_n hx hb dX1_hour_20 rfl (lv_at hl 0 rfl) ?_
      refine lv_iload_n hx hb dX1_hour_21 rfl (lv_at hl 1 rfl) ?_
      refine h_cm hS h (fun z hz => h_rV (rest := []) Z hS hu0 rfl v_X1_305 (w_X1_begins hu0 hz) rfl rfl ⟨by decide, by decide⟩ rfl hl.1 rfl (Nat.le_of_ble_eq_true rfl) (Nat.zero_le _) (Nat.zero_le _) dX1_hour_22) (fun σ5 H locs hS h => ?_)
      refine lv_iinc (v := (v1 + (1 : Int32))) (lv' := [(1, .int (v1 + (1 : Int32))), (0, .ref (ad 0))]) hx hb dX1_hour_25 hl (k := 1) rfl rfl (by decide) rfl (fun ls hl => ?_)
      refine lv_goto (tgt := 12) hx hb dX1_hour_28 (by decide) ?_
      exact ih _ _ _ _ _ hS (lv_sub hl [1, 0] rfl) h
set_option maxRecDepth 100000 in
set_option maxHeartbeats 4000000 in
theorem w_X1_hour_L33 (Z : Cz D (Ew D A) A cX1_hour 3 none RX1 p s m args meth c) (hu0 : S 0 = (10, 0)) {r : Mem} {k83 : Mem → Option Mem}
    (hk83 : ∀ (σ : Mem)  (H : Heap) (locs : List Loc) (ls : Array Slot), St D A ad S σ s.heap H locs → lv_has ls 3 [(0, .ref (ad 0))] → k83 σ = some r → W p l e rm_X1_hour s m args below meth c H locs 0 0 (MQ below (QG D A ad S none r) args s 0 0 A) (F0 m 83 ls [])) :
    ∀ (n : Nat) (σ : Mem) (v1 : Int32) (H : Heap) (locs : List Loc) (ls : Array Slot), St D A ad S σ s.heap H locs → lv_has ls 3 [(0, .ref (ad 0)), (1, .int v1)] → f_X1_hour_L33 S k83 n σ v1 = some r → W p l e rm_X1_hour s m args below meth c H locs 0 0 (MQ below (QG D A ad S none r) args s 0 0 A) (F0 m 33 ls []) := by
  have hx := Z.1
  have hb := Z.2.1
  have hown := Z.2.2.2.2.2.1
  have hts := Z.2.2.2.2.2.2.1
  intro n
  induction n with
  | zero => intro σ v1 H locs ls hS hl h; cases h
  | succ n ih =>
    intro σ v1 H locs ls hS hl h
    unfold f_X1_hour_L33 at h
    refine lv_iload_n hx hb dX1_hour_33 rfl (lv_at hl 1 rfl) ?_
    refine lv_aload_n hx hb dX1_hour_34 rfl (lv_at hl 0 rfl) ?_
    refine h_getI Z hS cls_0 hu0 (by decide) rfl fl_X1_140_0 dX1_hour_35 h (fun x7 h => ?_)
    refine lv_icmp_ge (tgt := 83) hx hb dX1_hour_38 (by decide) (fun c8 => ?_) (fun c8 => ?_)
    · have h := if_t h c8
      exact hk83 _ _ _ _ hS (lv_sub hl [0] rfl) h
    · have h := if_f h c8
      refine lv_aload_n hx hb dX1_hour_41 rfl (lv_at hl 0 rfl) ?_
      refine h_getC (n := 3) (j := 3) (sh := (5, 8)) Z hS cls_0 hu0 (by decide) rfl rfl rfl fl_X1_24_0 dX1_hour_42 (fun hc9 => ?_)
      refine lv_iload_n hx hb dX1_hour_45 rfl (lv_at hl 1 rfl) ?_
      refine h_aldN (sh := (12, 0)) Z hS hc9 (by decide) (by decide) rfl dX1_hour_46 h (fun j10 hj10 h => ?_)
      refine h_getI Z hS cls_2 hj10 (by decide) rfl fl_X1_193_2 dX1_hour_47 h (fun x11 h => ?_)
      refine lv_iconst (v := (2 : Int32)) hx hb dX1_hour_50 (by decide) ?_
      refine lv_icmp_ne (tgt := 77) hx hb dX1_hour_51 (by decide) (fun c12 => ?_) (fun c12 => ?_)
      · have h := if_f h c12
        refine lv_iinc (v := (v1 + (1 : Int32))) (lv' := [(1, .int (v1 + (1 : Int32))), (0, .ref (ad 0))]) hx hb dX1_hour_77 hl (k := 1) rfl rfl (by decide) rfl (fun ls hl => ?_)
        refine lv_goto (tgt := 33) hx hb dX1_hour_80 (by decide) ?_
        exact ih _ _ _ _ _ hS (lv_sub hl [1, 0] rfl) h
      · have h := if_t h c12
        refine lv_aload_n hx hb dX1_hour_54 rfl (lv_at hl 0 rfl) ?_
        refine h_getC (n := 3) (j := 3) (sh := (5, 8)) Z hS cls_0 hu0 (by decide) rfl rfl rfl fl_X1_24_0 dX1_hour_55 (fun hc13 => ?_)
        refine lv_iload_n hx hb dX1_hour_58 rfl (lv_at hl 1 rfl) ?_
        refine h_aldN (sh := (12, 0)) Z hS hc13 (by decide) (by decide) rfl dX1_hour_59 h (fun j14 hj14 h => ?_)
        refine lv_aload_n hx hb dX1_hour_60 rfl (lv_at hl 0 rfl) ?_
        refine h_getC (n := 100) (j := 100) (sh := (11, 0)) Z hS cls_0 hu0 (by decide) rfl rfl rfl fl_X1_18_0 dX1_hour_61 (fun hc15 => ?_)
        refine lv_aload_n hx hb dX1_hour_64 rfl (lv_at hl 0 rfl) ?_
        refine h_getC (n := 19) (j := 19) (sh := (1, 8)) Z hS cls_0 hu0 (by decide) rfl rfl rfl fl_X1_69_0 dX1_hour_65 (fun hc16 => ?_)
        refine lv_iload_n hx hb dX1_hour_68 rfl (lv_at hl 1 rfl) ?_
        refine h_iald Z hS hc16 dX1_hour_69 h (fun x17 h => ?_)
        refine lv_aload_n hx hb dX1_hour_70 rfl (lv_at hl 0 rfl) ?_
        refine h_getC (n := 13) (j := 13) (sh := (1, 8)) Z hS cls_0 hu0 (by decide) rfl rfl rfl fl_X1_51_0 dX1_hour_71 (fun hc18 => ?_)
        refine h_cm hS h (fun z hz => h_rV (rest := []) Z hS hj14 rfl v_X1_308 (w_X3_wash hj14 hc15 hc18 hz) rfl rfl ⟨by decide, by decide⟩ rfl hl.1 rfl (Nat.le_of_ble_eq_true rfl) (Nat.zero_le _) (Nat.zero_le _) dX1_hour_74) (fun σ19 H locs hS h => ?_)
        refine lv_iinc (v := (v1 + (1 : Int32))) (lv' := [(1, .int (v1 + (1 : Int32))), (0, .ref (ad 0))]) hx hb dX1_hour_77 hl (k := 1) rfl rfl (by decide) rfl (fun ls hl => ?_)
        refine lv_goto (tgt := 33) hx hb dX1_hour_80 (by decide) ?_
        exact ih _ _ _ _ _ hS (lv_sub hl [1, 0] rfl) h
set_option maxRecDepth 100000 in
set_option maxHeartbeats 4000000 in
theorem w_X1_hour_L85 (Z : Cz D (Ew D A) A cX1_hour 3 none RX1 p s m args meth c) (hu0 : S 0 = (10, 0)) {r : Mem} {k153 : Mem → Option Mem}
    (hk153 : ∀ (σ : Mem)  (H : Heap) (locs : List Loc) (ls : Array Slot), St D A ad S σ s.heap H locs → lv_has ls 3 [(0, .ref (ad 0))] → k153 σ = some r → W p l e rm_X1_hour s m args below meth c H locs 0 0 (MQ below (QG D A ad S none r) args s 0 0 A) (F0 m 153 ls [])) :
    ∀ (n : Nat) (σ : Mem) (v1 : Int32) (H : Heap) (locs : List Loc) (ls : Array Slot), St D A ad S σ s.heap H locs → lv_has ls 3 [(0, .ref (ad 0)), (1, .int v1)] → f_X1_hour_L85 S k153 n σ v1 = some r → W p l e rm_X1_hour s m args below meth c H locs 0 0 (MQ below (QG D A ad S none r) args s 0 0 A) (F0 m 85 ls []) := by
  have hx := Z.1
  have hb := Z.2.1
  have hown := Z.2.2.2.2.2.1
  have hts := Z.2.2.2.2.2.2.1
  intro n
  induction n with
  | zero => intro σ v1 H locs ls hS hl h; cases h
  | succ n ih =>
    intro σ v1 H locs ls hS hl h
    unfold f_X1_hour_L85 at h
    refine lv_iload_n hx hb dX1_hour_85 rfl (lv_at hl 1 rfl) ?_
    refine lv_aload_n hx hb dX1_hour_86 rfl (lv_at hl 0 rfl) ?_
    refine h_getI Z hS cls_0 hu0 (by decide) rfl fl_X1_140_0 dX1_hour_87 h (fun x21 h => ?_)
    refine lv_icmp_ge (tgt := 153) hx hb dX1_hour_90 (by decide) (fun c22 => ?_) (fun c22 => ?_)
    · have h := if_t h c22
      exact hk153 _ _ _ _ hS (lv_sub hl [0] rfl) h
    · have h := if_f h c22
      refine lv_aload_n hx hb dX1_hour_93 rfl (lv_at hl 0 rfl) ?_
      refine h_getC (n := 20) (j := 20) (sh := (1, 8)) Z hS cls_0 hu0 (by decide) rfl rfl rfl fl_X1_72_0 dX1_hour_94 (fun hc23 => ?_)
      refine lv_iload_n hx hb dX1_hour_97 rfl (lv_at hl 1 rfl) ?_
      refine lv_aload_n hx hb dX1_hour_98 rfl (lv_at hl 0 rfl) ?_
      refine h_getC (n := 3) (j := 3) (sh := (5, 8)) Z hS cls_0 hu0 (by decide) rfl rfl rfl fl_X1_24_0 dX1_hour_99 (fun hc24 => ?_)
      refine lv_iload_n hx hb dX1_hour_102 rfl (lv_at hl 1 rfl) ?_
      refine h_aldN (sh := (12, 0)) Z hS hc24 (by decide) (by decide) rfl dX1_hour_103 h (fun j25 hj25 h => ?_)
      refine h_getI Z hS cls_2 hj25 (by decide) rfl fl_X1_193_2 dX1_hour_104 h (fun x26 h => ?_)
      refine lv_iconst (v := (1 : Int32)) hx hb dX1_hour_107 (by decide) ?_
      obtain ⟨x28, hp29, h⟩ := bnd_el h
      have K29 : ∀ (H : Heap) (locs : List Loc) (ls : Array Slot), St D A ad S σ s.heap H locs → lv_has ls 3 [(0, .ref (ad 0)), (1, .int v1)] → W p l e rm_X1_hour s m args below meth c H locs 0 0 (MQ below (QG D A ad S none r) args s 0 0 A) (F0 m 116 ls [.int x28, .int v1, .ref (ad 20)]) := by
        intro H locs ls hS hl
        refine h_iast Z hS hc23 dX1_hour_116 h (fun σ30 H locs hS h => ?_)
        refine lv_aload_n hx hb dX1_hour_117 rfl (lv_at hl 0 rfl) ?_
        refine h_getC (n := 3) (j := 3) (sh := (5, 8)) Z hS cls_0 hu0 (by decide) rfl rfl rfl fl_X1_24_0 dX1_hour_118 (fun hc31 => ?_)
        refine lv_iload_n hx hb dX1_hour_121 rfl (lv_at hl 1 rfl) ?_
        refine h_aldN (sh := (12, 0)) Z hS hc31 (by decide) (by decide) rfl dX1_hour_122 h (fun j32 hj32 h => ?_)
        refine lv_iconst (v := (0 : Int32)) hx hb dX1_hour_123 (by decide) ?_
        refine h_putI Z hS cls_2 hj32 (by decide) rfl rfl rfl fl_X1_216_2 dX1_hour_124 h (fun σ33 H locs hS h => ?_)
        refine lv_aload_n hx hb dX1_hour_127 rfl (lv_at hl 0 rfl) ?_
        refine h_getC (n := 3) (j := 3) (sh := (5, 8)) Z hS cls_0 hu0 (by decide) rfl rfl rfl fl_X1_24_0 dX1_hour_128 (fun hc34 => ?_)
        refine lv_iload_n hx hb dX1_hour_131 rfl (lv_at hl 1 rfl) ?_
        refine h_aldN (sh := (12, 0)) Z hS hc34 (by decide) (by decide) rfl dX1_hour_132 h (fun j35 hj35 h => ?_)
        refine lv_iconst (v := (0 : Int32)) hx hb dX1_hour_133 (by decide) ?_
        refine h_putI Z hS cls_2 hj35 (by decide) rfl rfl rfl fl_X1_219_2 dX1_hour_134 h (fun σ36 H locs hS h => ?_)
        refine lv_aload_n hx hb dX1_hour_137 rfl (lv_at hl 0 rfl) ?_
        refine h_getC (n := 3) (j := 3) (sh := (5, 8)) Z hS cls_0 hu0 (by decide) rfl rfl rfl fl_X1_24_0 dX1_hour_138 (fun hc37 => ?_)
        refine lv_iload_n hx hb dX1_hour_141 rfl (lv_at hl 1 rfl) ?_
        refine h_aldN (sh := (12, 0)) Z hS hc37 (by decide) (by decide) rfl dX1_hour_142 h (fun j38 hj38 h => ?_)
        refine lv_iconst (v := (0 : Int32)) hx hb dX1_hour_143 (by decide) ?_
        refine h_putI Z hS cls_2 hj38 (by decide) rfl rfl rfl fl_X1_222_2 dX1_hour_144 h (fun σ39 H locs hS h => ?_)
        refine lv_iinc (v := (v1 + (1 : Int32))) (lv' := [(1, .int (v1 + (1 : Int32))), (0, .ref (ad 0))]) hx hb dX1_hour_147 hl (k := 1) rfl rfl (by decide) rfl (fun ls hl => ?_)
        refine lv_goto (tgt := 85) hx hb dX1_hour_150 (by decide) ?_
        exact ih _ _ _ _ _ hS (lv_sub hl [1, 0] rfl) h
      clear h
      have h := hp29
      clear hp29
      refine lv_icmp_ne (tgt := 115) hx hb dX1_hour_108 (by decide) (fun c27 => ?_) (fun c27 => ?_)
      · have h := if_f h c27
        refine lv_iconst (v := (0 : Int32)) hx hb dX1_hour_115 (by decide) ?_
        cases h
        exact K29 _ _ _ hS (lv_sub hl [0, 1] rfl)
      · have h := if_t h c27
        refine lv_iconst (v := (1 : Int32)) hx hb dX1_hour_111 (by decide) ?_
        refine lv_goto (tgt := 116) hx hb dX1_hour_112 (by decide) ?_
        cases h
        exact K29 _ _ _ hS (lv_sub hl [0, 1] rfl)
set_option maxRecDepth 100000 in
set_option maxHeartbeats 4000000 in
theorem w_X1_hour_L155 (Z : Cz D (Ew D A) A cX1_hour 3 none RX1 p s m args meth c) (hu0 : S 0 = (10, 0)) {r : Mem} {k181 : Mem → Option Mem}
    (hk181 : ∀ (σ : Mem)  (H : Heap) (locs : List Loc) (ls : Array Slot), St D A ad S σ s.heap H locs → lv_has ls 3 [(0, .ref (ad 0))] → k181 σ = some r → W p l e rm_X1_hour s m args below meth c H locs 0 0 (MQ below (QG D A ad S none r) args s 0 0 A) (F0 m 181 ls [])) :
    ∀ (n : Nat) (σ : Mem) (v1 : Int32) (H : Heap) (locs : List Loc) (ls : Array Slot), St D A ad S σ s.heap H locs → lv_has ls 3 [(0, .ref (ad 0)), (1, .int v1)] → f_X1_hour_L155 S k181 n σ v1 = some r → W p l e rm_X1_hour s m args below meth c H locs 0 0 (MQ below (QG D A ad S none r) args s 0 0 A) (F0 m 155 ls []) := by
  have hx := Z.1
  have hb := Z.2.1
  have hown := Z.2.2.2.2.2.1
  have hts := Z.2.2.2.2.2.2.1
  intro n
  induction n with
  | zero => intro σ v1 H locs ls hS hl h; cases h
  | succ n ih =>
    intro σ v1 H locs ls hS hl h
    unfold f_X1_hour_L155 at h
    refine lv_iload_n hx hb dX1_hour_155 rfl (lv_at hl 1 rfl) ?_
    refine lv_bipush (v := (8 : Int32)) hx hb dX1_hour_156 (by decide) ?_
    refine lv_icmp_ge (tgt := 181) hx hb dX1_hour_158 (by decide) (fun c41 => ?_) (fun c41 => ?_)
    · have h := if_t h c41
      exact hk181 _ _ _ _ hS (lv_sub hl [0] rfl) h
    · have h := if_f h c41
      refine lv_aload_n hx hb dX1_hour_161 rfl (lv_at hl 0 rfl) ?_
      refine h_getC (n := 17) (j := 17) (sh := (1, 8)) Z hS cls_0 hu0 (by decide) rfl rfl rfl fl_X1_63_0 dX1_hour_162 (fun hc42 => ?_)
      refine lv_iload_n hx hb dX1_hour_165 rfl (lv_at hl 1 rfl) ?_
      refine lv_iconst (v := (0 : Int32)) hx hb dX1_hour_166 (by decide) ?_
      refine h_iast Z hS hc42 dX1_hour_167 h (fun σ43 H locs hS h => ?_)
      refine lv_aload_n hx hb dX1_hour_168 rfl (lv_at hl 0 rfl) ?_
      refine h_getC (n := 18) (j := 18) (sh := (1, 8)) Z hS cls_0 hu0 (by decide) rfl rfl rfl fl_X1_66_0 dX1_hour_169 (fun hc44 => ?_)
      refine lv_iload_n hx hb dX1_hour_172 rfl (lv_at hl 1 rfl) ?_
      refine lv_iconst (v := (0 : Int32)) hx hb dX1_hour_173 (by decide) ?_
      refine h_iast Z hS hc44 dX1_hour_174 h (fun σ45 H locs hS h => ?_)
      refine lv_iinc (v := (v1 + (1 : Int32))) (lv' := [(1, .int (v1 + (1 : Int32))), (0, .ref (ad 0))]) hx hb dX1_hour_175 hl (k := 1) rfl rfl (by decide) rfl (fun ls hl => ?_)
      refine lv_goto (tgt := 155) hx hb dX1_hour_178 (by decide) ?_
      exact ih _ _ _ _ _ hS (lv_sub hl [1, 0] rfl) h
set_option maxRecDepth 100000 in
set_option maxHeartbeats 4000000 in
theorem w_X1_hour_L194 (Z : Cz D (Ew D A) A cX1_hour 3 none RX1 p s m args meth c) (hu0 : S 0 = (10, 0)) {r : Mem} {k250 : Mem → Option Mem}
    (hk250 : ∀ (σ : Mem)  (H : Heap) (locs : List Loc) (ls : Array Slot), St D A ad S σ s.heap H locs → lv_has ls 3 [(0, .ref (ad 0))] → k250 σ = some r → W p l e rm_X1_hour s m args below meth c H locs 0 0 (MQ below (QG D A ad S none r) args s 0 0 A) (F0 m 250 ls [])) :
    ∀ (n : Nat) (σ : Mem) (v1 : Int32) (H : Heap) (locs : List Loc) (ls : Array Slot), St D A ad S σ s.heap H locs → lv_has ls 3 [(0, .ref (ad 0)), (1, .int v1)] → f_X1_hour_L194 S k250 n σ v1 = some r → W p l e rm_X1_hour s m args below meth c H locs 0 0 (MQ below (QG D A ad S none r) args s 0 0 A) (F0 m 194 ls []) := by
  have hx := Z.1
  have hb := Z.2.1
  have hown := Z.2.2.2.2.2.1
  have hts := Z.2.2.2.2.2.2.1
  intro n
  induction n with
  | zero => intro σ v1 H locs ls hS hl h; cases h
  | succ n ih =>
    intro σ v1 H locs ls hS hl h
    unfold f_X1_hour_L194 at h
    refine lv_iload_n hx hb dX1_hour_194 rfl (lv_at hl 1 rfl) ?_
    refine lv_aload_n hx hb dX1_hour_195 rfl (lv_at hl 0 rfl) ?_
    refine h_getI Z hS cls_0 hu0 (by decide) rfl fl_X1_140_0 dX1_hour_196 h (fun x51 h => ?_)
    refine lv_icmp_ge (tgt := 250) hx hb dX1_hour_199 (by decide) (fun c52 => ?_) (fun c52 => ?_)
    · have h := if_t h c52
      exact hk250 _ _ _ _ hS (lv_sub hl [0] rfl) h
    · have h := if_f h c52
      refine lv_aload_n hx hb dX1_hour_202 rfl (lv_at hl 0 rfl) ?_
      refine h_getC (n := 3) (j := 3) (sh := (5, 8)) Z hS cls_0 hu0 (by decide) rfl rfl rfl fl_X1_24_0 dX1_hour_203 (fun hc53 => ?_)
      refine lv_iload_n hx hb dX1_hour_206 rfl (lv_at hl 1 rfl) ?_
      refine h_aldN (sh := (12, 0)) Z hS hc53 (by decide) (by decide) rfl dX1_hour_207 h (fun j54 hj54 h => ?_)
      refine lv_dup hx hb dX1_hour_208 rfl ?_
      refine h_getI Z hS cls_2 hj54 (by decide) rfl fl_X1_196_2 dX1_hour_209 h (fun x55 h => ?_)
      refine lv_aload_n hx hb dX1_hour_212 rfl (lv_at hl 0 rfl) ?_
      refine h_getC (n := 20) (j := 20) (sh := (1, 8)) Z hS cls_0 hu0 (by decide) rfl rfl rfl fl_X1_72_0 dX1_hour_213 (fun hc56 => ?_)
      refine lv_iload_n hx hb dX1_hour_216 rfl (lv_at hl 1 rfl) ?_
      refine h_iald Z hS hc56 dX1_hour_217 h (fun x57 h => ?_)
      refine lv_iconst (v := (1 : Int32)) hx hb dX1_hour_218 (by decide) ?_
      obtain ⟨x59, hp60, h⟩ := bnd_el h
      have K60 : ∀ (H : Heap) (locs : List Loc) (ls : Array Slot), St D A ad S σ s.heap H locs → lv_has ls 3 [(0, .ref (ad 0)), (1, .int v1)] → W p l e rm_X1_hour s m args below meth c H locs 0 0 (MQ below (QG D A ad S none r) args s 0 0 A) (F0 m 240 ls [.int x59, .int x55, .ref (ad j54)]) := by
        intro H locs ls hS hl
        refine lv_iadd hx hb dX1_hour_240 ?_
        refine h_putI Z hS cls_2 hj54 (by decide) rfl rfl rfl fl_X1_196_2 dX1_hour_241 h (fun σ61 H locs hS h => ?_)
        refine lv_iinc (v := (v1 + (1 : Int32))) (lv' := [(1, .int (v1 + (1 : Int32))), (0, .ref (ad 0))]) hx hb dX1_hour_244 hl (k := 1) rfl rfl (by decide) rfl (fun ls hl => ?_)
        refine lv_goto (tgt := 194) hx hb dX1_hour_247 (by decide) ?_
        exact ih _ _ _ _ _ hS (lv_sub hl [1, 0] rfl) h
      clear h
      have h := hp60
      clear hp60
      refine lv_icmp_eq (tgt := 235) hx hb dX1_hour_219 (by decide) (fun c58 => ?_) (fun c58 => ?_)
      · have h := if_t h c58
        refine lv_iconst (v := (1 : Int32)) hx hb dX1_hour_235 (by decide) ?_
        refine lv_goto (tgt := 240) hx hb dX1_hour_236 (by decide) ?_
        cases h
        exact K60 _ _ _ hS (lv_sub hl [0, 1] rfl)
      · have h := if_f h c58
        refine lv_aload_n hx hb dX1_hour_222 rfl (lv_at hl 0 rfl) ?_
        refine h_getC (n := 3) (j := 3) (sh := (5, 8)) Z hS cls_0 hu0 (by decide) rfl rfl rfl fl_X1_24_0 dX1_hour_223 (fun hc62 => ?_)
        refine lv_iload_n hx hb dX1_hour_226 rfl (lv_at hl 1 rfl) ?_
        refine h_aldN (sh := (12, 0)) Z hS hc62 (by decide) (by decide) rfl dX1_hour_227 h (fun j63 hj63 h => ?_)
        refine h_getI Z hS cls_2 hj63 (by decide) rfl fl_X1_193_2 dX1_hour_228 h (fun x64 h => ?_)
        refine lv_iconst (v := (3 : Int32)) hx hb dX1_hour_231 (by decide) ?_
        refine lv_icmp_ne (tgt := 239) hx hb dX1_hour_232 (by decide) (fun c65 => ?_) (fun c65 => ?_)
        · have h := if_f h c65
          refine lv_iconst (v := (0 : Int32)) hx hb dX1_hour_239 (by decide) ?_
          cases h
          exact K60 _ _ _ hS (lv_sub hl [0, 1] rfl)
        · have h := if_t h c65
          refine lv_iconst (v := (1 : Int32)) hx hb dX1_hour_235 (by decide) ?_
          refine lv_goto (tgt := 240) hx hb dX1_hour_236 (by decide) ?_
          cases h
          exact K60 _ _ _ hS (lv_sub hl [0, 1] rfl)
set_option maxRecDepth 100000 in
set_option maxHeartbeats 4000000 in
theorem w_X1_hour_L252 (Z : Cz D (Ew D A) A cX1_hour 3 none RX1 p s m args meth c) (hu0 : S 0 = (10, 0)) {r : Mem} {k372 : Mem → Option Mem}
    (hk372 : ∀ (σ : Mem)  (H : Heap) (locs : List Loc) (ls : Array Slot), St D A ad S σ s.heap H locs → lv_has ls 3 [] → k372 σ = some r → W p l e rm_X1_hour s m args below meth c H locs 0 0 (MQ below (QG D A ad S none r) args s 0 0 A) (F0 m 372 ls [])) :
    ∀ (n : Nat) (σ : Mem) (v1 : Int32) (H : Heap) (locs : List Loc) (ls : Array Slot), St D A ad S σ s.heap H locs → lv_has ls 3 [(0, .ref (ad 0)), (1, .int v1)] → f_X1_hour_L252 S k372 n σ v1 = some r → W p l e rm_X1_hour s m args below meth c H locs 0 0 (MQ below (QG D A ad S none r) args s 0 0 A) (F0 m 252 ls []) := by
  have hx := Z.1
  have hb := Z.2.1
  have hown := Z.2.2.2.2.2.1
  have hts := Z.2.2.2.2.2.2.1
  intro n
  induction n with
  | zero => intro σ v1 H locs ls hS hl h; cases h
  | succ n ih =>
    intro σ v1 H locs ls hS hl h
    unfold f_X1_hour_L252 at h
    refine lv_iload_n hx hb dX1_hour_252 rfl (lv_at hl 1 rfl) ?_
    refine lv_bipush (v := (8 : Int32)) hx hb dX1_hour_253 (by decide) ?_
    refine lv_icmp_ge (tgt := 372) hx hb dX1_hour_255 (by decide) (fun c67 => ?_) (fun c67 => ?_)
    · have h := if_t h c67
      exact hk372 _ _ _ _ hS (lv_sub hl [] rfl) h
    · have h := if_f h c67
      refine lv_iconst (v := (3 : Int32)) hx hb dX1_hour_258 (by decide) ?_
      refine lv_bipush (v := (8 : Int32)) hx hb dX1_hour_259 (by decide) ?_
      refine lv_aload_n hx hb dX1_hour_261 rfl (lv_at hl 0 rfl) ?_
      refine h_getI Z hS cls_0 hu0 (by decide) rfl fl_X1_299_0 dX1_hour_262 h (fun x68 h => ?_)
      refine lv_imul hx hb dX1_hour_265 ?_
      refine lv_iload_n hx hb dX1_hour_266 rfl (lv_at hl 1 rfl) ?_
      refine lv_iadd hx hb dX1_hour_267 ?_
      refine lv_imul hx hb dX1_hour_268 ?_
      refine h_leti h (fun x69 h => ?_)
      refine lv_istore_n (lv' := [(2, .int x69), (0, .ref (ad 0)), (1, .int v1)]) hx hb dX1_hour_269 rfl hl (by decide) rfl (fun ls hl => ?_)
      refine lv_aload_n hx hb dX1_hour_270 rfl (lv_at hl 1 rfl) ?_
      refine h_getC (n := 21) (j := 21) (sh := (1, 48024)) Z hS cls_0 hu0 (by decide) rfl rfl rfl fl_X1_76_0 dX1_hour_271 (fun hc70 => ?_)
      refine lv_iload_n hx hb dX1_hour_274 rfl (lv_at hl 0 rfl) ?_
      refine lv_aload_n hx hb dX1_hour_275 rfl (lv_at hl 1 rfl) ?_
      refine h_getI Z hS cls_0 hu0 (by decide) rfl fl_X1_294_0 dX1_hour_276 h (fun x71 h => ?_)
      obtain ⟨x73, hp74, h⟩ := bnd_el h
      have K74 : ∀ (H : Heap) (locs : List Loc) (ls : Array Slot), St D A ad S σ s.heap H locs → lv_has ls 3 [(0, .ref (ad 0)), (1, .int v1), (2, .int x69)] → W p l e rm_X1_hour s m args below meth c H locs 0 0 (MQ below (QG D A ad S none r) args s 0 0 A) (F0 m 292 ls [.int x73, .int x69, .ref (ad 21)]) := by
        intro H locs ls hS hl
        refine h_iast Z hS hc70 dX1_hour_292 h (fun σ75 H locs hS h => ?_)
        refine lv_aload_n hx hb dX1_hour_293 rfl (lv_at hl 0 rfl) ?_
        refine h_getC (n := 21) (j := 21) (sh := (1, 48024)) Z hS cls_0 hu0 (by decide) rfl rfl rfl fl_X1_76_0 dX1_hour_294 (fun hc76 => ?_)
        refine lv_iload_n hx hb dX1_hour_297 rfl (lv_at hl 2 rfl) ?_
        refine lv_iconst (v := (1 : Int32)) hx hb dX1_hour_298 (by decide) ?_
        refine lv_iadd hx hb dX1_hour_299 ?_
        refine lv_aload_n hx hb dX1_hour_300 rfl (lv_at hl 0 rfl) ?_
        refine h_getC (n := 17) (j := 17) (sh := (1, 8)) Z hS cls_0 hu0 (by decide) rfl rfl rfl fl_X1_63_0 dX1_hour_301 (fun hc77 => ?_)
        refine lv_iload_n hx hb dX1_hour_304 rfl (lv_at hl 1 rfl) ?_
        refine h_iald Z hS hc77 dX1_hour_305 h (fun x78 h => ?_)
        refine h_iast Z hS hc76 dX1_hour_306 h (fun σ79 H locs hS h => ?_)
        refine lv_aload_n hx hb dX1_hour_307 rfl (lv_at hl 0 rfl) ?_
        refine h_getC (n := 21) (j := 21) (sh := (1, 48024)) Z hS cls_0 hu0 (by decide) rfl rfl rfl fl_X1_76_0 dX1_hour_308 (fun hc80 => ?_)
        refine lv_iload_n hx hb dX1_hour_311 rfl (lv_at hl 2 rfl) ?_
        refine lv_iconst (v := (2 : Int32)) hx hb dX1_hour_312 (by decide) ?_
        refine lv_iadd hx hb dX1_hour_313 ?_
        refine lv_aload_n hx hb dX1_hour_314 rfl (lv_at hl 0 rfl) ?_
        refine h_getC (n := 18) (j := 18) (sh := (1, 8)) Z hS cls_0 hu0 (by decide) rfl rfl rfl fl_X1_66_0 dX1_hour_315 (fun hc81 => ?_)
        refine lv_iload_n hx hb dX1_hour_318 rfl (lv_at hl 1 rfl) ?_
        refine h_iald Z hS hc81 dX1_hour_319 h (fun x82 h => ?_)
        refine h_iast Z hS hc80 dX1_hour_320 h (fun σ83 H locs hS h => ?_)
        refine lv_aload_n hx hb dX1_hour_321 rfl (lv_at hl 0 rfl) ?_
        refine h_getC (n := 12) (j := 12) (sh := (1, 8)) Z hS cls_0 hu0 (by decide) rfl rfl rfl fl_X1_48_0 dX1_hour_322 (fun hc84 => ?_)
        refine lv_iload_n hx hb dX1_hour_325 rfl (lv_at hl 1 rfl) ?_
        refine lv_dup2_11 hx hb dX1_hour_326 rfl rfl ?_
        refine h_iald Z hS hc84 dX1_hour_327 h (fun x85 h => ?_)
        refine lv_aload_n hx hb dX1_hour_328 rfl (lv_at hl 0 rfl) ?_
        refine h_getC (n := 21) (j := 21) (sh := (1, 48024)) Z hS cls_0 hu0 (by decide) rfl rfl rfl fl_X1_76_0 dX1_hour_329 (fun hc86 => ?_)
        refine lv_iload_n hx hb dX1_hour_332 rfl (lv_at hl 2 rfl) ?_
        refine h_iald Z hS hc86 dX1_hour_333 h (fun x87 h => ?_)
        refine lv_iadd hx hb dX1_hour_334 ?_
        refine h_iast Z hS hc84 dX1_hour_335 h (fun σ88 H locs hS h => ?_)
        refine lv_aload_n hx hb dX1_hour_336 rfl (lv_at hl 0 rfl) ?_
        refine h_getC (n := 15) (j := 15) (sh := (1, 8)) Z hS cls_0 hu0 (by decide) rfl rfl rfl fl_X1_57_0 dX1_hour_337 (fun hc89 => ?_)
        refine lv_iload_n hx hb dX1_hour_340 rfl (lv_at hl 1 rfl) ?_
        refine lv_dup2_11 hx hb dX1_hour_341 rfl rfl ?_
        refine h_iald Z hS hc89 dX1_hour_342 h (fun x90 h => ?_)
        refine lv_aload_n hx hb dX1_hour_343 rfl (lv_at hl 0 rfl) ?_
        refine h_getC (n := 17) (j := 17) (sh := (1, 8)) Z hS cls_0 hu0 (by decide) rfl rfl rfl fl_X1_63_0 dX1_hour_344 (fun hc91 => ?_)
        refine lv_iload_n hx hb dX1_hour_347 rfl (lv_at hl 1 rfl) ?_
        refine h_iald Z hS hc91 dX1_hour_348 h (fun x92 h => ?_)
        refine lv_iadd hx hb dX1_hour_349 ?_
        refine h_iast Z hS hc89 dX1_hour_350 h (fun σ93 H locs hS h => ?_)
        refine lv_aload_n hx hb dX1_hour_351 rfl (lv_at hl 0 rfl) ?_
        refine h_getC (n := 16) (j := 16) (sh := (1, 8)) Z hS cls_0 hu0 (by decide) rfl rfl rfl fl_X1_60_0 dX1_hour_352 (fun hc94 => ?_)
        refine lv_iload_n hx hb dX1_hour_355 rfl (lv_at hl 1 rfl) ?_
        refine lv_dup2_11 hx hb dX1_hour_356 rfl rfl ?_
        refine h_iald Z hS hc94 dX1_hour_357 h (fun x95 h => ?_)
        refine lv_aload_n hx hb dX1_hour_358 rfl (lv_at hl 0 rfl) ?_
        refine h_getC (n := 18) (j := 18) (sh := (1, 8)) Z hS cls_0 hu0 (by decide) rfl rfl rfl fl_X1_66_0 dX1_hour_359 (fun hc96 => ?_)
        refine lv_iload_n hx hb dX1_hour_362 rfl (lv_at hl 1 rfl) ?_
        refine h_iald Z hS hc96 dX1_hour_363 h (fun x97 h => ?_)
        refine lv_iadd hx hb dX1_hour_364 ?_
        refine h_iast Z hS hc94 dX1_hour_365 h (fun σ98 H locs hS h => ?_)
        refine lv_iinc (v := (v1 + (1 : Int32))) (lv' := [(1, .int (v1 + (1 : Int32))), (0, .ref (ad 0)), (2, .int x69)]) hx hb dX1_hour_366 hl (k := 1) rfl rfl (by decide) rfl (fun ls hl => ?_)
        refine lv_goto (tgt := 252) hx hb dX1_hour_369 (by decide) ?_
        exact ih _ _ _ _ _ hS (lv_sub hl [1, 0] rfl) h
      clear h
      have h := hp74
      clear hp74
      refine lv_if_le (tgt := 291) hx hb dX1_hour_279 (by decide) (fun c72 => ?_) (fun c72 => ?_)
      · have h := if_t h c72
        refine lv_iconst (v := (0 : Int32)) hx hb dX1_hour_291 (by decide) ?_
        cases h
        exact K74 _ _ _ hS (lv_sub hl [1, 2, 0] rfl)
      · have h := if_f h c72
        refine lv_aload_n hx hb dX1_hour_282 rfl (lv_at hl 1 rfl) ?_
        refine h_getC (n := 10) (j := 10) (sh := (1, 8)) Z hS cls_0 hu0 (by decide) rfl rfl rfl fl_X1_42_0 dX1_hour_283 (fun hc99 => ?_)
        refine lv_iload_n hx hb dX1_hour_286 rfl (lv_at hl 2 rfl) ?_
        refine h_iald Z hS hc99 dX1_hour_287 h (fun x100 h => ?_)
        refine lv_goto (tgt := 292) hx hb dX1_hour_288 (by decide) ?_
        cases h
        exact K74 _ _ _ hS (lv_sub hl [1, 2, 0] rfl)
set_option maxRecDepth 100000 in
set_option maxHeartbeats 4000000 in
theorem w_X1_hour (hi0 : S 0 = (10, 0)) {r : Mem} (h : f_X1_hour σ S = some r) : Met l yX1_hour (ws_ yX1_hour cX1_hour 3 none) rm_X1_hour (va_Pc [.ref (ad 0)] (PreG D (Ew D A) A ad S σ)) (QG D A ad S none r) 0 0 A := by
  refine y_met (by decide) (Nat.le_of_ble_eq_true rfl) (fun p e s m below meth c ls Z hS hl => ?_)
  have hx := Z.1
  have hb := Z.2.1
  have hown := Z.2.2.2.2.2.1
  have hts := Z.2.2.2.2.2.2.1
  unfold f_X1_hour at h
  refine lv_aload_n hx hb dX1_hour_0 rfl (lv_at hl 0 rfl) ?_
  refine lv_dup hx hb dX1_hour_1 rfl ?_
  refine h_getI Z hS cls_0 hi0 (by decide) rfl fl_X1_299_0 dX1_hour_2 h (fun x1 h => ?_)
  refine lv_iconst (v := (1 : Int32)) hx hb dX1_hour_5 (by decide) ?_
  refine lv_iadd hx hb dX1_hour_6 ?_
  refine h_putI Z hS cls_0 hi0 (by decide) rfl rfl rfl fl_X1_299_0 dX1_hour_7 h (fun σ2 H locs hS h => ?_)
  refine lv_iconst (v := (0 : Int32)) hx hb dX1_hour_10 (by decide) ?_
  refine lv_istore_n (lv' := [(1, .int (0 : Int32)), (0, .ref (ad 0))]) hx hb dX1_hour_11 rfl hl (by decide) rfl (fun ls hl => ?_)
  refine w_X1_hour_L12 Z hi0 (fun σ6 H locs ls hS hl h => ?_) FU _ _ _ _ _ hS (lv_sub hl [1, 0] rfl) h
  refine lv_iconst (v := (0 : Int32)) hx hb dX1_hour_31 (by decide) ?_
  refine lv_istore_n (lv' := [(1, .int (0 : Int32)), (0, .ref (ad 0))]) hx hb dX1_hour_32 rfl hl (by decide) rfl (fun ls hl => ?_)
  refine w_X1_hour_L33 Z hi0 (fun σ20 H locs ls hS hl h => ?_) FU _ _ _ _ _ hS (lv_sub hl [1, 0] rfl) h
  refine lv_iconst (v := (0 : Int32)) hx hb dX1_hour_83 (by decide) ?_
  refine lv_istore_n (lv' := [(1, .int (0 : Int32)), (0, .ref (ad 0))]) hx hb dX1_hour_84 rfl hl (by decide) rfl (fun ls hl => ?_)
  refine w_X1_hour_L85 Z hi0 (fun σ40 H locs ls hS hl h => ?_) FU _ _ _ _ _ hS (lv_sub hl [1, 0] rfl) h
  refine lv_iconst (v := (0 : Int32)) hx hb dX1_hour_153 (by decide) ?_
  refine lv_istore_n (lv' := [(1, .int (0 : Int32)), (0, .ref (ad 0))]) hx hb dX1_hour_154 rfl hl (by decide) rfl (fun ls hl => ?_)
  refine w_X1_hour_L155 Z hi0 (fun σ46 H locs ls hS hl h => ?_) FU _ _ _ _ _ hS (lv_sub hl [1, 0] rfl) h
  refine lv_aload_n hx hb dX1_hour_181 rfl (lv_at hl 0 rfl) ?_
  refine h_getI Z hS cls_0 hi0 (by decide) rfl fl_X1_294_0 dX1_hour_182 h (fun x47 h => ?_)
  obtain ⟨σ49, hp50, h⟩ := bnd_el h
  have K50 : ∀ (H : Heap) (locs : List Loc) (ls : Array Slot), St D A ad S σ49 s.heap H locs → lv_has ls 3 [(0, .ref (ad 0))] → W p l e rm_X1_hour s m ([.ref (ad 0)] : List Value).toArray below meth c H locs 0 0 (MQ below (QG D A ad S none r) ([.ref (ad 0)] : List Value).toArray s 0 0 A) (F0 m 192 ls []) := by
    intro H locs ls hS hl
    refine lv_iconst (v := (0 : Int32)) hx hb dX1_hour_192 (by decide) ?_
    refine lv_istore_n (lv' := [(1, .int (0 : Int32)), (0, .ref (ad 0))]) hx hb dX1_hour_193 rfl hl (by decide) rfl (fun ls hl => ?_)
    refine w_X1_hour_L194 Z hi0 (fun σ66 H locs ls hS hl h => ?_) FU _ _ _ _ _ hS (lv_sub hl [1, 0] rfl) h
    refine lv_iconst (v := (0 : Int32)) hx hb dX1_hour_250 (by decide) ?_
    refine lv_istore_n (lv' := [(1, .int (0 : Int32)), (0, .ref (ad 0))]) hx hb dX1_hour_251 rfl hl (by decide) rfl (fun ls hl => ?_)
    refine w_X1_hour_L252 Z hi0 (fun σ101 H locs ls hS hl h => ?_) FU _ _ _ _ _ hS (lv_sub hl [1, 0] rfl) h
    exact h_vret Z hS dX1_hour_372 h
  clear h
  have h := hp50
  clear hp50
  refine lv_if_le (tgt := 192) hx hb dX1_hour_185 (by decide) (fun c48 => ?_) (fun c48 => ?_)
  · have h := if_t h c48
    cases h
    exact K50 _ _ _ hS (lv_sub hl [0] rfl)
  · have h := if_f h c48
    refine lv_aload_n hx hb dX1_hour_188 rfl (lv_at hl 0 rfl) ?_
    refine h_cm hS h (fun z hz => h_rV (rest := []) Z hS hi0 rfl v_X1_312 (w_X1_runs hi0 hz) rfl rfl ⟨by decide, by decide⟩ rfl hl.1 rfl (Nat.le_of_ble_eq_true rfl) (Nat.zero_le _) (Nat.zero_le _) dX1_hour_189) (fun σ102 H locs hS h => ?_)
    cases h
    exact K50 _ _ _ hS (lv_sub hl [0] rfl)
end
theorem dX1_hours_0 : decode cX1_hours 0 = .ok (.iload_n 1, 1) := by decide +kernel
theorem dX1_hours_1 : decode cX1_hours 1 = .ok (.i2l, 1) := by decide +kernel
theorem dX1_hours_2 : decode cX1_hours 2 = .ok (.lconst 0, 1) := by decide +kernel
theorem dX1_hours_3 : decode cX1_hours 3 = .ok (.ldc2_w 162, 3) := by decide +kernel
theorem dX1_hours_6 : decode cX1_hours 6 = .ok (.invokestatic 5, 3) := by decide +kernel
theorem dX1_hours_9 : decode cX1_hours 9 = .ok (.ifCond .eq 15, 3) := by decide +kernel
theorem dX1_hours_12 : decode cX1_hours 12 = .ok (.aload_n 0, 1) := by decide +kernel
theorem dX1_hours_13 : decode cX1_hours 13 = .ok (.getfield 299, 3) := by decide +kernel
theorem dX1_hours_16 : decode cX1_hours 16 = .ok (.iload_n 1, 1) := by decide +kernel
theorem dX1_hours_17 : decode cX1_hours 17 = .ok (.iadd, 1) := by decide +kernel
theorem dX1_hours_18 : decode cX1_hours 18 = .ok (.sipush 2000, 3) := by decide +kernel
theorem dX1_hours_21 : decode cX1_hours 21 = .ok (.if_icmp .le 5, 3) := by decide +kernel
theorem dX1_hours_24 : decode cX1_hours 24 = .ok (.iconst (-1), 1) := by decide +kernel
theorem dX1_hours_25 : decode cX1_hours 25 = .ok (.ireturn, 1) := by decide +kernel
theorem dX1_hours_26 : decode cX1_hours 26 = .ok (.iconst 0, 1) := by decide +kernel
theorem dX1_hours_27 : decode cX1_hours 27 = .ok (.istore_n 2, 1) := by decide +kernel
theorem dX1_hours_28 : decode cX1_hours 28 = .ok (.iload_n 2, 1) := by decide +kernel
theorem dX1_hours_29 : decode cX1_hours 29 = .ok (.iload_n 1, 1) := by decide +kernel
theorem dX1_hours_30 : decode cX1_hours 30 = .ok (.if_icmp .ge 13, 3) := by decide +kernel
theorem dX1_hours_33 : decode cX1_hours 33 = .ok (.aload_n 0, 1) := by decide +kernel
theorem dX1_hours_34 : decode cX1_hours 34 = .ok (.invokevirtual 302, 3) := by decide +kernel
theorem dX1_hours_37 : decode cX1_hours 37 = .ok (.iinc 2 1, 3) := by decide +kernel
theorem dX1_hours_40 : decode cX1_hours 40 = .ok (.goto (-12), 3) := by decide +kernel
theorem dX1_hours_43 : decode cX1_hours 43 = .ok (.aload_n 0, 1) := by decide +kernel
theorem dX1_hours_44 : decode cX1_hours 44 = .ok (.getfield 299, 3) := by decide +kernel
theorem dX1_hours_47 : decode cX1_hours 47 = .ok (.ireturn, 1) := by decide +kernel
abbrev rm_X1_hours : Room := k2_rm 102 2175
section
variable {p : Program} {l : Launch} {e : Env} {s : State} {m : MethodId} {args : Array Value} {below : List Frame} {meth : Method} {c : Code} {D : gD} {A : Nat → Prop} {ad : Nat → Nat} {S : Nat → Nat × Nat} {σ : Mem}
set_option maxRecDepth 100000 in
set_option maxHeartbeats 4000000 in
theorem w_X1_hours_L28 (Z : Cz D (Ew D A) A cX1_hours 3 (some .int) RX1 p s m args meth c) {u1 : Int32} (hu0 : S 0 = (10, 0)) {r : (Mem × Int32)} {k43 : Mem → Option (Mem × Int32)}
    (hk43 : ∀ (σ : Mem)  (H : Heap) (locs : List Loc) (ls : Array Slot), St D A ad S σ s.heap H locs → lv_has ls 3 [(0, .ref (ad 0))] → k43 σ = some r → W p l e rm_X1_hours s m args below meth c H locs 0 0 (MQ below (QG D A ad S (some (.int r.2)) r.1) args s 0 0 A) (F0 m 43 ls [])) :
    ∀ (n : Nat) (σ : Mem) (v2 : Int32) (H : Heap) (locs : List Loc) (ls : Array Slot), St D A ad S σ s.heap H locs → lv_has ls 3 [(0, .ref (ad 0)), (1, .int u1), (2, .int v2)] → f_X1_hours_L28 S k43 u1 n σ v2 = some r → W p l e rm_X1_hours s m args below meth c H locs 0 0 (MQ below (QG D A ad S (some (.int r.2)) r.1) args s 0 0 A) (F0 m 28 ls []) := by
  have hx := Z.1
  have hb := Z.2.1
  have hown := Z.2.2.2.2.2.1
  have hts := Z.2.2.2.2.2.2.1
  intro n
  induction n with
  | zero => intro σ v2 H locs ls hS hl h; cases h
  | succ n ih =>
    intro σ v2 H locs ls hS hl h
    unfold f_X1_hours_L28 at h
    refine lv_iload_n hx hb dX1_hours_28 rfl (lv_at hl 2 rfl) ?_
    refine lv_iload_n hx hb dX1_hours_29 rfl (lv_at hl 1 rfl) ?_
    refine lv_icmp_ge (tgt := 43) hx hb dX1_hours_30 (by decide) (fun c5 => ?_) (fun c5 => ?_)
    · have h := if_t h c5
      exact hk43 _ _ _ _ hS (lv_sub hl [0] rfl) h
    · have h := if_f h c5
      refine lv_aload_n hx hb dX1_hours_33 rfl (lv_at hl 0 rfl) ?_
      refine h_cm hS h (fun z hz => h_rV (rest := []) Z hS hu0 rfl v_X1_302 (w_X1_hour hu0 hz) rfl rfl ⟨by decide, by decide⟩ rfl hl.1 rfl (Nat.le_of_ble_eq_true rfl) (Nat.zero_le _) (Nat.zero_le _) dX1_hours_34) (fun σ6 H locs hS h => ?_)
      refine lv_iinc (v := (v2 + (1 : Int32))) (lv' := [(2, .int (v2 + (1 : Int32))), (0, .ref (ad 0)), (1, .int u1)]) hx hb dX1_hours_37 hl (k := 2) rfl rfl (by decide) rfl (fun ls hl => ?_)
      refine lv_goto (tgt := 28) hx hb dX1_hours_40 (by decide) ?_
      exact ih _ _ _ _ _ hS (lv_sub hl [1, 2, 0] rfl) h
set_option maxRecDepth 100000 in
set_option maxHeartbeats 4000000 in
theorem w_X1_hours {a1 : Int32} (hi0 : S 0 = (10, 0)) {r : (Mem × Int32)} (h : f_X1_hours σ S a1 = some r) : Met l yX1_hours (ws_ yX1_hours cX1_hours 3 (some .int)) rm_X1_hours (va_Pc [.ref (ad 0), .int a1] (PreG D (Ew D A) A ad S σ)) (QG D A ad S (some (.int r.2)) r.1) 0 0 A := by
  refine y_met (by decide) (Nat.le_of_ble_eq_true rfl) (fun p e s m below meth c ls Z hS hl => ?_)
  have hx := Z.1
  have hb := Z.2.1
  have hown := Z.2.2.2.2.2.1
  have hts := Z.2.2.2.2.2.2.1
  unfold f_X1_hours at h
  refine lv_iload_n hx hb dX1_hours_0 rfl (lv_at hl 1 rfl) ?_
  refine lv_i2l hx hb dX1_hours_1 rfl ?_
  refine lv_lconst (v := (0 : Int64)) hx hb dX1_hours_2 (by decide) ?_
  refine lv_ldc2 (v := (200 : Int64)) hx hb hown (hts _ q399) dX1_hours_3 ?_
  refine h_ci hS h (fun z hz => h_rS (rest := []) Z hS v_X1_5 (w_X1_isIn hz) rfl rfl ⟨by decide, by decide⟩ rfl hl.1 rfl (Nat.le_of_ble_eq_true rfl) (Nat.zero_le _) (Nat.zero_le _) dX1_hours_6) (fun x1 H locs hS h => ?_)
  refine lv_if_eq (tgt := 24) hx hb dX1_hours_9 (by decide) (fun c2 => ?_) (fun c2 => ?_)
  · have h := if_t h c2
    refine lv_iconst (v := (-1 : Int32)) hx hb dX1_hours_24 (by decide) ?_
    exact h_iretm Z hS dX1_hours_25 h
  · have h := if_f h c2
    refine lv_aload_n hx hb dX1_hours_12 rfl (lv_at hl 0 rfl) ?_
    refine h_getI Z hS cls_0 hi0 (by decide) rfl fl_X1_299_0 dX1_hours_13 h (fun x3 h => ?_)
    refine lv_iload_n hx hb dX1_hours_16 rfl (lv_at hl 1 rfl) ?_
    refine lv_iadd hx hb dX1_hours_17 ?_
    refine lv_sipush (v := (2000 : Int32)) hx hb dX1_hours_18 (by decide) ?_
    refine lv_icmp_le (tgt := 26) hx hb dX1_hours_21 (by decide) (fun c4 => ?_) (fun c4 => ?_)
    · have h := if_t h c4
      refine lv_iconst (v := (0 : Int32)) hx hb dX1_hours_26 (by decide) ?_
      refine lv_istore_n (lv' := [(2, .int (0 : Int32)), (0, .ref (ad 0)), (1, .int a1)]) hx hb dX1_hours_27 rfl hl (by decide) rfl (fun ls hl => ?_)
      refine w_X1_hours_L28 Z hi0 (fun σ7 H locs ls hS hl h => ?_) FU _ _ _ _ _ hS (lv_sub hl [1, 2, 0] rfl) h
      refine lv_aload_n hx hb dX1_hours_43 rfl (lv_at hl 0 rfl) ?_
      refine h_getI Z hS cls_0 hi0 (by decide) rfl fl_X1_299_0 dX1_hours_44 h (fun x8 h => ?_)
      exact h_iretm Z hS dX1_hours_47 h
    · have h := if_f h c4
      refine lv_iconst (v := (-1 : Int32)) hx hb dX1_hours_24 (by decide) ?_
      exact h_iretm Z hS dX1_hours_25 h
end
theorem dX1_hand_0 : decode cX1_hand 0 = .ok (.aload_n 0, 1) := by decide +kernel
theorem dX1_hand_1 : decode cX1_hand 1 = .ok (.iload_n 1, 1) := by decide +kernel
theorem dX1_hand_2 : decode cX1_hand 2 = .ok (.invokevirtual 144, 3) := by decide +kernel
theorem dX1_hand_5 : decode cX1_hand 5 = .ok (.ifCond .eq 15, 3) := by decide +kernel
theorem dX1_hand_8 : decode cX1_hand 8 = .ok (.iload_n 2, 1) := by decide +kernel
theorem dX1_hand_9 : decode cX1_hand 9 = .ok (.i2l, 1) := by decide +kernel
theorem dX1_hand_10 : decode cX1_hand 10 = .ok (.lconst 0, 1) := by decide +kernel
theorem dX1_hand_11 : decode cX1_hand 11 = .ok (.ldc2_w 136, 3) := by decide +kernel
theorem dX1_hand_14 : decode cX1_hand 14 = .ok (.invokestatic 5, 3) := by decide +kernel
theorem dX1_hand_17 : decode cX1_hand 17 = .ok (.ifCond .ne 5, 3) := by decide +kernel
theorem dX1_hand_20 : decode cX1_hand 20 = .ok (.iconst 0, 1) := by decide +kernel
theorem dX1_hand_21 : decode cX1_hand 21 = .ok (.ireturn, 1) := by decide +kernel
theorem dX1_hand_22 : decode cX1_hand 22 = .ok (.aload_n 0, 1) := by decide +kernel
theorem dX1_hand_23 : decode cX1_hand 23 = .ok (.getfield 24, 3) := by decide +kernel
theorem dX1_hand_26 : decode cX1_hand 26 = .ok (.iload_n 1, 1) := by decide +kernel
theorem dX1_hand_27 : decode cX1_hand 27 = .ok (.aaload, 1) := by decide +kernel
theorem dX1_hand_28 : decode cX1_hand 28 = .ok (.astore_n 3, 1) := by decide +kernel
theorem dX1_hand_29 : decode cX1_hand 29 = .ok (.iload_n 2, 1) := by decide +kernel
theorem dX1_hand_30 : decode cX1_hand 30 = .ok (.ifCond .le 31, 3) := by decide +kernel
theorem dX1_hand_33 : decode cX1_hand 33 = .ok (.aload_n 3, 1) := by decide +kernel
theorem dX1_hand_34 : decode cX1_hand 34 = .ok (.getfield 193, 3) := by decide +kernel
theorem dX1_hand_37 : decode cX1_hand 37 = .ok (.iconst 4, 1) := by decide +kernel
theorem dX1_hand_38 : decode cX1_hand 38 = .ok (.if_icmp .ne 7, 3) := by decide +kernel
theorem dX1_hand_41 : decode cX1_hand 41 = .ok (.iconst 1, 1) := by decide +kernel
theorem dX1_hand_42 : decode cX1_hand 42 = .ok (.goto 4, 3) := by decide +kernel
theorem dX1_hand_45 : decode cX1_hand 45 = .ok (.iconst 0, 1) := by decide +kernel
theorem dX1_hand_46 : decode cX1_hand 46 = .ok (.iload_n 2, 1) := by decide +kernel
theorem dX1_hand_47 : decode cX1_hand 47 = .ok (.iconst 1, 1) := by decide +kernel
theorem dX1_hand_48 : decode cX1_hand 48 = .ok (.if_icmp .ne 7, 3) := by decide +kernel
theorem dX1_hand_51 : decode cX1_hand 51 = .ok (.iconst 1, 1) := by decide +kernel
theorem dX1_hand_52 : decode cX1_hand 52 = .ok (.goto 4, 3) := by decide +kernel
theorem dX1_hand_55 : decode cX1_hand 55 = .ok (.iconst 0, 1) := by decide +kernel
theorem dX1_hand_56 : decode cX1_hand 56 = .ok (.if_icmp .ne 5, 3) := by decide +kernel
theorem dX1_hand_59 : decode cX1_hand 59 = .ok (.iconst 0, 1) := by decide +kernel
theorem dX1_hand_60 : decode cX1_hand 60 = .ok (.ireturn, 1) := by decide +kernel
theorem dX1_hand_61 : decode cX1_hand 61 = .ok (.iload_n 2, 1) := by decide +kernel
theorem dX1_hand_62 : decode cX1_hand 62 = .ok (.ifCond .ne 11, 3) := by decide +kernel
theorem dX1_hand_65 : decode cX1_hand 65 = .ok (.aload_n 3, 1) := by decide +kernel
theorem dX1_hand_66 : decode cX1_hand 66 = .ok (.aload_n 0, 1) := by decide +kernel
theorem dX1_hand_67 : decode cX1_hand 67 = .ok (.getfield 54, 3) := by decide +kernel
theorem dX1_hand_70 : decode cX1_hand 70 = .ok (.invokevirtual 323, 3) := by decide +kernel
theorem dX1_hand_73 : decode cX1_hand 73 = .ok (.aload_n 3, 1) := by decide +kernel
theorem dX1_hand_74 : decode cX1_hand 74 = .ok (.iload_n 2, 1) := by decide +kernel
theorem dX1_hand_75 : decode cX1_hand 75 = .ok (.iconst 1, 1) := by decide +kernel
theorem dX1_hand_76 : decode cX1_hand 76 = .ok (.if_icmp .ne 7, 3) := by decide +kernel
theorem dX1_hand_79 : decode cX1_hand 79 = .ok (.iconst 4, 1) := by decide +kernel
theorem dX1_hand_80 : decode cX1_hand 80 = .ok (.goto 4, 3) := by decide +kernel
theorem dX1_hand_83 : decode cX1_hand 83 = .ok (.iconst 0, 1) := by decide +kernel
theorem dX1_hand_84 : decode cX1_hand 84 = .ok (.putfield 193, 3) := by decide +kernel
theorem dX1_hand_87 : decode cX1_hand 87 = .ok (.iconst 1, 1) := by decide +kernel
theorem dX1_hand_88 : decode cX1_hand 88 = .ok (.ireturn, 1) := by decide +kernel
abbrev rm_X1_hand : Room := k2_rm 3 66
section
variable {p : Program} {l : Launch} {e : Env} {s : State} {m : MethodId} {args : Array Value} {below : List Frame} {meth : Method} {c : Code} {D : gD} {A : Nat → Prop} {ad : Nat → Nat} {S : Nat → Nat × Nat} {σ : Mem}
set_option maxRecDepth 100000 in
set_option maxHeartbeats 4000000 in
theorem w_X1_hand {a1 : Int32} {a2 : Int32} (hi0 : S 0 = (10, 0)) {r : (Mem × Int32)} (h : f_X1_hand σ a1 a2 = some r) : Met l yX1_hand (ws_ yX1_hand cX1_hand 4 (some .boolean)) rm_X1_hand (va_Pc [.ref (ad 0), .int a1, .int a2] (PreG D (Ew D A) A ad S σ)) (QG D A ad S (some (.int r.2)) r.1) 0 0 A := by
  refine y_met (by decide) (Nat.le_of_ble_eq_true rfl) (fun p e s m below meth c ls Z hS hl => ?_)
  have hx := Z.1
  have hb := Z.2.1
  have hown := Z.2.2.2.2.2.1
  have hts := Z.2.2.2.2.2.2.1
  unfold f_X1_hand at h
  refine lv_aload_n hx hb dX1_hand_0 rfl (lv_at hl 0 rfl) ?_
  refine lv_iload_n hx hb dX1_hand_1 rfl (lv_at hl 1 rfl) ?_
  refine h_ci hS h (fun z hz => h_rV (rest := []) Z hS hi0 rfl v_X1_144 (w_X1_isFilter hi0 hz) rfl rfl ⟨by decide, by decide⟩ rfl hl.1 rfl (Nat.le_of_ble_eq_true rfl) (Nat.zero_le _) (Nat.zero_le _) dX1_hand_2) (fun x1 H locs hS h => ?_)
  refine lv_if_eq (tgt := 20) hx hb dX1_hand_5 (by decide) (fun c2 => ?_) (fun c2 => ?_)
  · have h := if_t h c2
    refine lv_iconst (v := (0 : Int32)) hx hb dX1_hand_20 (by decide) ?_
    exact h_zretm Z hS dX1_hand_21 h
  · have h := if_f h c2
    refine lv_iload_n hx hb dX1_hand_8 rfl (lv_at hl 2 rfl) ?_
    refine lv_i2l hx hb dX1_hand_9 rfl ?_
    refine lv_lconst (v := (0 : Int64)) hx hb dX1_hand_10 (by decide) ?_
    refine lv_ldc2 (v := (2 : Int64)) hx hb hown (hts _ q357) dX1_hand_11 ?_
    refine h_ci hS h (fun z hz => h_rS (rest := []) Z hS v_X1_5 (w_X1_isIn hz) rfl rfl ⟨by decide, by decide⟩ rfl hl.1 rfl (Nat.le_of_ble_eq_true rfl) (Nat.zero_le _) (Nat.zero_le _) dX1_hand_14) (fun x3 H locs hS h => ?_)
    refine lv_if_ne (tgt := 22) hx hb dX1_hand_17 (by decide) (fun c4 => ?_) (fun c4 => ?_)
    · have h := if_f h c4
      refine lv_aload_n hx hb dX1_hand_22 rfl (lv_at hl 0 rfl) ?_
      refine h_getC (n := 3) (j := 3) (sh := (5, 8)) Z hS cls_0 hi0 (by decide) rfl rfl rfl fl_X1_24_0 dX1_hand_23 (fun hc5 => ?_)
      refine lv_iload_n hx hb dX1_hand_26 rfl (lv_at hl 1 rfl) ?_
      refine h_aldN (sh := (12, 0)) Z hS hc5 (by decide) (by decide) rfl dX1_hand_27 h (fun j6 hj6 h => ?_)
      refine lv_astore_n (lv' := [(3, .ref (ad j6)), (0, .ref (ad 0)), (1, .int a1), (2, .int a2)]) hx hb dX1_hand_28 rfl hl (by decide) rfl (fun ls hl => ?_)
      refine lv_iload_n hx hb dX1_hand_29 rfl (lv_at hl 3 rfl) ?_
      refine lv_if_le (tgt := 61) hx hb dX1_hand_30 (by decide) (fun c7 => ?_) (fun c7 => ?_)
      · have h := if_t h c7
        refine lv_iload_n hx hb dX1_hand_61 rfl (lv_at hl 3 rfl) ?_
        obtain ⟨σ9, hp10, h⟩ := bnd_el h
        have K10 : ∀ (H : Heap) (locs : List Loc) (ls : Array Slot), St D A ad S σ9 s.heap H locs → lv_has ls 4 [(2, .int a2), (3, .ref (ad j6))] → W p l e rm_X1_hand s m ([.ref (ad 0), .int a1, .int a2] : List Value).toArray below meth c H locs 0 0 (MQ below (QG D A ad S (some (.int r.2)) r.1) ([.ref (ad 0), .int a1, .int a2] : List Value).toArray s 0 0 A) (F0 m 73 ls []) := by
          intro H locs ls hS hl
          refine lv_aload_n hx hb dX1_hand_73 rfl (lv_at hl 1 rfl) ?_
          refine lv_iload_n hx hb dX1_hand_74 rfl (lv_at hl 0 rfl) ?_
          refine lv_iconst (v := (1 : Int32)) hx hb dX1_hand_75 (by decide) ?_
          refine lv_icmp_ne (tgt := 83) hx hb dX1_hand_76 (by decide) (fun c11 => ?_) (fun c11 => ?_)
          · have h := if_f h c11
            refine lv_iconst (v := (0 : Int32)) hx hb dX1_hand_83 (by decide) ?_
            refine h_putI Z hS cls_2 hj6 (by decide) rfl rfl rfl fl_X1_193_2 dX1_hand_84 h (fun σ13 H locs hS h => ?_)
            refine lv_iconst (v := (1 : Int32)) hx hb dX1_hand_87 (by decide) ?_
            exact h_zretm Z hS dX1_hand_88 h
          · have h := if_t h c11
            refine lv_iconst (v := (4 : Int32)) hx hb dX1_hand_79 (by decide) ?_
            refine lv_goto (tgt := 84) hx hb dX1_hand_80 (by decide) ?_
            refine h_putI Z hS cls_2 hj6 (by decide) rfl rfl rfl fl_X1_193_2 dX1_hand_84 h (fun σ12 H locs hS h => ?_)
            refine lv_iconst (v := (1 : Int32)) hx hb dX1_hand_87 (by decide) ?_
            exact h_zretm Z hS dX1_hand_88 h
        clear h
        have h := hp10
        clear hp10
        refine lv_if_ne (tgt := 73) hx hb dX1_hand_62 (by decide) (fun c8 => ?_) (fun c8 => ?_)
        · have h := if_f h c8
          cases h
          exact K10 _ _ _ hS (lv_sub hl [3, 0] rfl)
        · have h := if_t h c8
          refine lv_aload_n hx hb dX1_hand_65 rfl (lv_at hl 0 rfl) ?_
          refine lv_aload_n hx hb dX1_hand_66 rfl (lv_at hl 1 rfl) ?_
          refine h_getC (n := 14) (j := 14) (sh := (1, 8)) Z hS cls_0 hi0 (by decide) rfl rfl rfl fl_X1_54_0 dX1_hand_67 (fun hc14 => ?_)
          refine h_cm hS h (fun z hz => h_rV (rest := []) Z hS hj6 rfl v_X1_323 (w_X3_change hj6 hc14 hz) rfl rfl ⟨by decide, by decide⟩ rfl hl.1 rfl (Nat.le_of_ble_eq_true rfl) (Nat.zero_le _) (Nat.zero_le _) dX1_hand_70) (fun σ15 H locs hS h => ?_)
          cases h
          exact K10 _ _ _ hS (lv_sub hl [3, 0] rfl)
      · have h := if_f h c7
        refine lv_aload_n hx hb dX1_hand_33 rfl (lv_at hl 0 rfl) ?_
        refine h_getI Z hS cls_2 hj6 (by decide) rfl fl_X1_193_2 dX1_hand_34 h (fun x16 h => ?_)
        refine lv_iconst (v := (4 : Int32)) hx hb dX1_hand_37 (by decide) ?_
        obtain ⟨x18, hp19, h⟩ := bnd_el h
        have K19 : ∀ (H : Heap) (locs : List Loc) (ls : Array Slot), St D A ad S σ s.heap H locs → lv_has ls 4 [(0, .ref (ad 0)), (2, .int a2), (3, .ref (ad j6))] → W p l e rm_X1_hand s m ([.ref (ad 0), .int a1, .int a2] : List Value).toArray below meth c H locs 0 0 (MQ below (QG D A ad S (some (.int r.2)) r.1) ([.ref (ad 0), .int a1, .int a2] : List Value).toArray s 0 0 A) (F0 m 46 ls [.int x18]) := by
          intro H locs ls hS hl
          refine lv_iload_n hx hb dX1_hand_46 rfl (lv_at hl 1 rfl) ?_
          refine lv_iconst (v := (1 : Int32)) hx hb dX1_hand_47 (by decide) ?_
          obtain ⟨x21, hp22, h⟩ := bnd_el h
          have K22 : ∀ (H : Heap) (locs : List Loc) (ls : Array Slot), St D A ad S σ s.heap H locs → lv_has ls 4 [(0, .ref (ad 0)), (2, .int a2), (3, .ref (ad j6))] → W p l e rm_X1_hand s m ([.ref (ad 0), .int a1, .int a2] : List Value).toArray below meth c H locs 0 0 (MQ below (QG D A ad S (some (.int r.2)) r.1) ([.ref (ad 0), .int a1, .int a2] : List Value).toArray s 0 0 A) (F0 m 56 ls [.int x21, .int x18]) := by
            intro H locs ls hS hl
            refine lv_icmp_ne (tgt := 61) hx hb dX1_hand_56 (by decide) (fun c23 => ?_) (fun c23 => ?_)
            · have h := if_f h c23
              refine lv_iload_n hx hb dX1_hand_61 rfl (lv_at hl 1 rfl) ?_
              obtain ⟨σ25, hp26, h⟩ := bnd_el h
              have K26 : ∀ (H : Heap) (locs : List Loc) (ls : Array Slot), St D A ad S σ25 s.heap H locs → lv_has ls 4 [(2, .int a2), (3, .ref (ad j6))] → W p l e rm_X1_hand s m ([.ref (ad 0), .int a1, .int a2] : List Value).toArray below meth c H locs 0 0 (MQ below (QG D A ad S (some (.int r.2)) r.1) ([.ref (ad 0), .int a1, .int a2] : List Value).toArray s 0 0 A) (F0 m 73 ls []) := by
                intro H locs ls hS hl
                refine lv_aload_n hx hb dX1_hand_73 rfl (lv_at hl 1 rfl) ?_
                refine lv_iload_n hx hb dX1_hand_74 rfl (lv_at hl 0 rfl) ?_
                refine lv_iconst (v := (1 : Int32)) hx hb dX1_hand_75 (by decide) ?_
                refine lv_icmp_ne (tgt := 83) hx hb dX1_hand_76 (by decide) (fun c27 => ?_) (fun c27 => ?_)
                · have h := if_f h c27
                  refine lv_iconst (v := (0 : Int32)) hx hb dX1_hand_83 (by decide) ?_
                  refine h_putI Z hS cls_2 hj6 (by decide) rfl rfl rfl fl_X1_193_2 dX1_hand_84 h (fun σ29 H locs hS h => ?_)
                  refine lv_iconst (v := (1 : Int32)) hx hb dX1_hand_87 (by decide) ?_
                  exact h_zretm Z hS dX1_hand_88 h
                · have h := if_t h c27
                  refine lv_iconst (v := (4 : Int32)) hx hb dX1_hand_79 (by decide) ?_
                  refine lv_goto (tgt := 84) hx hb dX1_hand_80 (by decide) ?_
                  refine h_putI Z hS cls_2 hj6 (by decide) rfl rfl rfl fl_X1_193_2 dX1_hand_84 h (fun σ28 H locs hS h => ?_)
                  refine lv_iconst (v := (1 : Int32)) hx hb dX1_hand_87 (by decide) ?_
                  exact h_zretm Z hS dX1_hand_88 h
              clear h
              have h := hp26
              clear hp26
              refine lv_if_ne (tgt := 73) hx hb dX1_hand_62 (by decide) (fun c24 => ?_) (fun c24 => ?_)
              · have h := if_f h c24
                cases h
                exact K26 _ _ _ hS (lv_sub hl [1, 2] rfl)
              · have h := if_t h c24
                refine lv_aload_n hx hb dX1_hand_65 rfl (lv_at hl 2 rfl) ?_
                refine lv_aload_n hx hb dX1_hand_66 rfl (lv_at hl 0 rfl) ?_
                refine h_getC (n := 14) (j := 14) (sh := (1, 8)) Z hS cls_0 hi0 (by decide) rfl rfl rfl fl_X1_54_0 dX1_hand_67 (fun hc30 => ?_)
                refine h_cm hS h (fun z hz => h_rV (rest := []) Z hS hj6 rfl v_X1_323 (w_X3_change hj6 hc30 hz) rfl rfl ⟨by decide, by decide⟩ rfl hl.1 rfl (Nat.le_of_ble_eq_true rfl) (Nat.zero_le _) (Nat.zero_le _) dX1_hand_70) (fun σ31 H locs hS h => ?_)
                cases h
                exact K26 _ _ _ hS (lv_sub hl [1, 2] rfl)
            · have h := if_t h c23
              refine lv_iconst (v := (0 : Int32)) hx hb dX1_hand_59 (by decide) ?_
              exact h_zretm Z hS dX1_hand_60 h
          clear h
          have h := hp22
          clear hp22
          refine lv_icmp_ne (tgt := 55) hx hb dX1_hand_48 (by decide) (fun c20 => ?_) (fun c20 => ?_)
          · have h := if_f h c20
            refine lv_iconst (v := (0 : Int32)) hx hb dX1_hand_55 (by decide) ?_
            cases h
            exact K22 _ _ _ hS (lv_sub hl [0, 1, 2] rfl)
          · have h := if_t h c20
            refine lv_iconst (v := (1 : Int32)) hx hb dX1_hand_51 (by decide) ?_
            refine lv_goto (tgt := 56) hx hb dX1_hand_52 (by decide) ?_
            cases h
            exact K22 _ _ _ hS (lv_sub hl [0, 1, 2] rfl)
        clear h
        have h := hp19
        clear hp19
        refine lv_icmp_ne (tgt := 45) hx hb dX1_hand_38 (by decide) (fun c17 => ?_) (fun c17 => ?_)
        · have h := if_f h c17
          refine lv_iconst (v := (0 : Int32)) hx hb dX1_hand_45 (by decide) ?_
          cases h
          exact K19 _ _ _ hS (lv_sub hl [1, 3, 0] rfl)
        · have h := if_t h c17
          refine lv_iconst (v := (1 : Int32)) hx hb dX1_hand_41 (by decide) ?_
          refine lv_goto (tgt := 46) hx hb dX1_hand_42 (by decide) ?_
          cases h
          exact K19 _ _ _ hS (lv_sub hl [1, 3, 0] rfl)
    · have h := if_t h c4
      refine lv_iconst (v := (0 : Int32)) hx hb dX1_hand_20 (by decide) ?_
      exact h_zretm Z hS dX1_hand_21 h
end
