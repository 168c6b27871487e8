set_option maxRecDepth 100000
theorem dX1_history_0 : decode cX1_history 0 = .ok (.iload_n 1, 1) := by decide +kernel
theorem dX1_history_1 : decode cX1_history 1 = .ok (.i2l, 1) := by decide +kernel
theorem dX1_history_2 : decode cX1_history 2 = .ok (.lconst 1, 1) := by decide +kernel
theorem dX1_history_3 : decode cX1_history 3 = .ok (.aload_n 0, 1) := by decide +kernel
theorem dX1_history_4 : decode cX1_history 4 = .ok (.getfield 299, 3) := by decide +kernel
theorem dX1_history_7 : decode cX1_history 7 = .ok (.i2l, 1) := by decide +kernel
theorem dX1_history_8 : decode cX1_history 8 = .ok (.invokestatic 5, 3) := by decide +kernel
theorem dX1_history_11 : decode cX1_history 11 = .ok (.ifCond .eq 40, 3) := by decide +kernel
theorem dX1_history_14 : decode cX1_history 14 = .ok (.iload_n 2, 1) := by decide +kernel
theorem dX1_history_15 : decode cX1_history 15 = .ok (.invokestatic 132, 3) := by decide +kernel
theorem dX1_history_18 : decode cX1_history 18 = .ok (.ifCond .eq 33, 3) := by decide +kernel
theorem dX1_history_21 : decode cX1_history 21 = .ok (.iload_n 3, 1) := by decide +kernel
theorem dX1_history_22 : decode cX1_history 22 = .ok (.i2l, 1) := by decide +kernel
theorem dX1_history_23 : decode cX1_history 23 = .ok (.lconst 0, 1) := by decide +kernel
theorem dX1_history_24 : decode cX1_history 24 = .ok (.ldc2_w 136, 3) := by decide +kernel
theorem dX1_history_27 : decode cX1_history 27 = .ok (.invokestatic 5, 3) := by decide +kernel
theorem dX1_history_30 : decode cX1_history 30 = .ok (.ifCond .eq 21, 3) := by decide +kernel
theorem dX1_history_33 : decode cX1_history 33 = .ok (.aload_n 0, 1) := by decide +kernel
theorem dX1_history_34 : decode cX1_history 34 = .ok (.getfield 76, 3) := by decide +kernel
theorem dX1_history_37 : decode cX1_history 37 = .ok (.iconst 3, 1) := by decide +kernel
theorem dX1_history_38 : decode cX1_history 38 = .ok (.bipush 8, 2) := by decide +kernel
theorem dX1_history_40 : decode cX1_history 40 = .ok (.iload_n 1, 1) := by decide +kernel
theorem dX1_history_41 : decode cX1_history 41 = .ok (.imul, 1) := by decide +kernel
theorem dX1_history_42 : decode cX1_history 42 = .ok (.iload_n 2, 1) := by decide +kernel
theorem dX1_history_43 : decode cX1_history 43 = .ok (.iadd, 1) := by decide +kernel
theorem dX1_history_44 : decode cX1_history 44 = .ok (.imul, 1) := by decide +kernel
theorem dX1_history_45 : decode cX1_history 45 = .ok (.iload_n 3, 1) := by decide +kernel
theorem dX1_history_46 : decode cX1_history 46 = .ok (.iadd, 1) := by decide +kernel
theorem dX1_history_47 : decode cX1_history 47 = .ok (.iaload, 1) := by decide +kernel
theorem dX1_history_48 : decode cX1_history 48 = .ok (.goto 4, 3) := by decide +kernel
theorem dX1_history_51 : decode cX1_history 51 = .ok (.iconst (-1), 1) := by decide +kernel
theorem dX1_history_52 : decode cX1_history 52 = .ok (.ireturn, 1) := by decide +kernel
abbrev rm_X1_history : Room := k2_rm 2 45
section
variable {p : Program} {l : Launch} {e : Env} {s : State} {m : MethodId} {args : Array Value} {below : List Frame} {meth : Method} {c : Code} {D : gD} {A : Nat → Prop} {ad : Nat → Nat} {S : Nat → Nat × Nat} {σ : Mem}
set_option maxRecDepth 100000 in
set_option maxHeartbeats 4000000 in
theorem w_X1_history {a1 : Int32} {a2 : Int32} {a3 : Int32} (hi0 : S 0 = (10, 0)) {r : Int32} (h : f_X1_history σ a1 a2 a3 = some r) : Met l yX1_history (ws_ yX1_history cX1_history 4 (some .int)) rm_X1_history (va_Pc [.ref (ad 0), .int a1, .int a2, .int a3] (PreG D (Ew D A) A ad S σ)) (QG D A ad S (some (.int r)) σ) 0 0 A := by
  refine y_met (by decide) (Nat.le_of_ble_eq_true rfl) (fun p e s m below meth c ls Z hS hl => ?_)
  have hx := Z.1
  have hb := Z.2.1
  have hown := Z.2.2.2.2.2.1
  have hts := Z.2.2.2.2.2.2.1
  unfold f_X1_history at h
  refine lv_iload_n hx hb dX1_history_0 rfl (lv_at hl 1 rfl) ?_
  refine lv_i2l hx hb dX1_history_1 rfl ?_
  refine lv_lconst (v := (1 : Int64)) hx hb dX1_history_2 (by decide) ?_
  refine lv_aload_n hx hb dX1_history_3 rfl (lv_at hl 0 rfl) ?_
  refine h_getI Z hS cls_0 hi0 (by decide) rfl fl_X1_299_0 dX1_history_4 h (fun x1 h => ?_)
  refine lv_i2l hx hb dX1_history_7 rfl ?_
  refine h_ci hS h (fun z hz => h_rS (rest := []) Z hS v_X1_5 (w_X1_isIn hz) rfl rfl ⟨by decide, by decide⟩ rfl hl.1 rfl (Nat.le_of_ble_eq_true rfl) (Nat.zero_le _) (Nat.zero_le _) dX1_history_8) (fun x2 H locs hS h => ?_)
  refine lv_if_eq (tgt := 51) hx hb dX1_history_11 (by decide) (fun c3 => ?_) (fun c3 => ?_)
  · have h := if_t h c3
    refine lv_iconst (v := (-1 : Int32)) hx hb dX1_history_51 (by decide) ?_
    exact h_iret Z hS dX1_history_52 h
  · have h := if_f h c3
    refine lv_iload_n hx hb dX1_history_14 rfl (lv_at hl 2 rfl) ?_
    refine h_ci hS h (fun z hz => h_rS (rest := []) Z hS v_X1_132 (w_X1_isSize hz) rfl rfl ⟨by decide, by decide⟩ rfl hl.1 rfl (Nat.le_of_ble_eq_true rfl) (Nat.zero_le _) (Nat.zero_le _) dX1_history_15) (fun x4 H locs hS h => ?_)
    refine lv_if_eq (tgt := 51) hx hb dX1_history_18 (by decide) (fun c5 => ?_) (fun c5 => ?_)
    · have h := if_t h c5
      refine lv_iconst (v := (-1 : Int32)) hx hb dX1_history_51 (by decide) ?_
      exact h_iret Z hS dX1_history_52 h
    · have h := if_f h c5
      refine lv_iload_n hx hb dX1_history_21 rfl (lv_at hl 3 rfl) ?_
      refine lv_i2l hx hb dX1_history_22 rfl ?_
      refine lv_lconst (v := (0 : Int64)) hx hb dX1_history_23 (by decide) ?_
      refine lv_ldc2 (v := (2 : Int64)) hx hb hown (hts _ q357) dX1_history_24 ?_
      refine h_ci hS h (fun z hz => h_rS (rest := []) Z hS v_X1_5 (w_X1_isIn hz) rfl rfl ⟨by decide, by decide⟩ rfl hl.1 rfl (Nat.le_of_ble_eq_true rfl) (Nat.zero_le _) (Nat.zero_le _) dX1_history_27) (fun x6 H locs hS h => ?_)
      refine lv_if_eq (tgt := 51) hx hb dX1_history_30 (by decide) (fun c7 => ?_) (fun c7 => ?_)
      · have h := if_t h c7
        refine lv_iconst (v := (-1 : Int32)) hx hb dX1_history_51 (by decide) ?_
        exact h_iret Z hS dX1_history_52 h
      · have h := if_f h c7
        refine lv_aload_n hx hb dX1_history_33 rfl (lv_at hl 0 rfl) ?_
        refine h_getC (n := 21) (j := 21) (sh := (1, 48024)) Z hS cls_0 hi0 (by decide) rfl rfl rfl fl_X1_76_0 dX1_history_34 (fun hc8 => ?_)
        refine lv_iconst (v := (3 : Int32)) hx hb dX1_history_37 (by decide) ?_
        refine lv_bipush (v := (8 : Int32)) hx hb dX1_history_38 (by decide) ?_
        refine lv_iload_n hx hb dX1_history_40 rfl (lv_at hl 1 rfl) ?_
        refine lv_imul hx hb dX1_history_41 ?_
        refine lv_iload_n hx hb dX1_history_42 rfl (lv_at hl 2 rfl) ?_
        refine lv_iadd hx hb dX1_history_43 ?_
        refine lv_imul hx hb dX1_history_44 ?_
        refine lv_iload_n hx hb dX1_history_45 rfl (lv_at hl 3 rfl) ?_
        refine lv_iadd hx hb dX1_history_46 ?_
        refine h_iald Z hS hc8 dX1_history_47 h (fun x9 h => ?_)
        refine lv_goto (tgt := 52) hx hb dX1_history_48 (by decide) ?_
        exact h_iret Z hS dX1_history_52 h
end
theorem dX1_breaks_0 : decode cX1_breaks 0 = .ok (.iload_n 1, 1) := by decide +kernel
theorem dX1_breaks_1 : decode cX1_breaks 1 = .ok (.invokestatic 132, 3) := by decide +kernel
theorem dX1_breaks_4 : decode cX1_breaks 4 = .ok (.ifCond .eq 7, 3) := by decide +kernel
theorem dX1_breaks_7 : decode cX1_breaks 7 = .ok (.iload_n 2, 1) := by decide +kernel
theorem dX1_breaks_8 : decode cX1_breaks 8 = .ok (.ifCond .ge 5, 3) := by decide +kernel
theorem dX1_breaks_11 : decode cX1_breaks 11 = .ok (.iconst (-1), 1) := by decide +kernel
theorem dX1_breaks_12 : decode cX1_breaks 12 = .ok (.ireturn, 1) := by decide +kernel
theorem dX1_breaks_13 : decode cX1_breaks 13 = .ok (.iconst 1, 1) := by decide +kernel
theorem dX1_breaks_14 : decode cX1_breaks 14 = .ok (.istore_n 3, 1) := by decide +kernel
theorem dX1_breaks_15 : decode cX1_breaks 15 = .ok (.iload_n 3, 1) := by decide +kernel
theorem dX1_breaks_16 : decode cX1_breaks 16 = .ok (.aload_n 0, 1) := by decide +kernel
theorem dX1_breaks_17 : decode cX1_breaks 17 = .ok (.getfield 299, 3) := by decide +kernel
theorem dX1_breaks_20 : decode cX1_breaks 20 = .ok (.if_icmp .gt 58, 3) := by decide +kernel
theorem dX1_breaks_23 : decode cX1_breaks 23 = .ok (.iconst 0, 1) := by decide +kernel
theorem dX1_breaks_24 : decode cX1_breaks 24 = .ok (.istore 4, 2) := by decide +kernel
theorem dX1_breaks_26 : decode cX1_breaks 26 = .ok (.iload_n 1, 1) := by decide +kernel
theorem dX1_breaks_27 : decode cX1_breaks 27 = .ok (.istore 5, 2) := by decide +kernel
theorem dX1_breaks_29 : decode cX1_breaks 29 = .ok (.iload 5, 2) := by decide +kernel
theorem dX1_breaks_31 : decode cX1_breaks 31 = .ok (.bipush 8, 2) := by decide +kernel
theorem dX1_breaks_33 : decode cX1_breaks 33 = .ok (.if_icmp .ge 31, 3) := by decide +kernel
theorem dX1_breaks_36 : decode cX1_breaks 36 = .ok (.iload 4, 2) := by decide +kernel
theorem dX1_breaks_38 : decode cX1_breaks 38 = .ok (.aload_n 0, 1) := by decide +kernel
theorem dX1_breaks_39 : decode cX1_breaks 39 = .ok (.iload_n 3, 1) := by decide +kernel
theorem dX1_breaks_40 : decode cX1_breaks 40 = .ok (.iload 5, 2) := by decide +kernel
theorem dX1_breaks_42 : decode cX1_breaks 42 = .ok (.iconst 1, 1) := by decide +kernel
theorem dX1_breaks_43 : decode cX1_breaks 43 = .ok (.invokevirtual 353, 3) := by decide +kernel
theorem dX1_breaks_46 : decode cX1_breaks 46 = .ok (.aload_n 0, 1) := by decide +kernel
theorem dX1_breaks_47 : decode cX1_breaks 47 = .ok (.iload_n 3, 1) := by decide +kernel
theorem dX1_breaks_48 : decode cX1_breaks 48 = .ok (.iload 5, 2) := by decide +kernel
theorem dX1_breaks_50 : decode cX1_breaks 50 = .ok (.iconst 2, 1) := by decide +kernel
theorem dX1_breaks_51 : decode cX1_breaks 51 = .ok (.invokevirtual 353, 3) := by decide +kernel
theorem dX1_breaks_54 : decode cX1_breaks 54 = .ok (.iadd, 1) := by decide +kernel
theorem dX1_breaks_55 : decode cX1_breaks 55 = .ok (.iadd, 1) := by decide +kernel
theorem dX1_breaks_56 : decode cX1_breaks 56 = .ok (.istore 4, 2) := by decide +kernel
theorem dX1_breaks_58 : decode cX1_breaks 58 = .ok (.iinc 5 1, 3) := by decide +kernel
theorem dX1_breaks_61 : decode cX1_breaks 61 = .ok (.goto (-32), 3) := by decide +kernel
theorem dX1_breaks_64 : decode cX1_breaks 64 = .ok (.iload 4, 2) := by decide +kernel
theorem dX1_breaks_66 : decode cX1_breaks 66 = .ok (.iload_n 2, 1) := by decide +kernel
theorem dX1_breaks_67 : decode cX1_breaks 67 = .ok (.if_icmp .le 5, 3) := by decide +kernel
theorem dX1_breaks_70 : decode cX1_breaks 70 = .ok (.iload_n 3, 1) := by decide +kernel
theorem dX1_breaks_71 : decode cX1_breaks 71 = .ok (.ireturn, 1) := by decide +kernel
theorem dX1_breaks_72 : decode cX1_breaks 72 = .ok (.iinc 3 1, 3) := by decide +kernel
theorem dX1_breaks_75 : decode cX1_breaks 75 = .ok (.goto (-60), 3) := by decide +kernel
theorem dX1_breaks_78 : decode cX1_breaks 78 = .ok (.iconst (-1), 1) := by decide +kernel
theorem dX1_breaks_79 : decode cX1_breaks 79 = .ok (.ireturn, 1) := by decide +kernel
abbrev rm_X1_breaks : Room := k2_rm 3 68
section
variable {p : Program} {l : Launch} {e : Env} {s : State} {m : MethodId} {args : Array Value} {below : List Frame} {meth : Method} {c : Code} {D : gD} {A : Nat → Prop} {ad : Nat → Nat} {S : Nat → Nat × Nat} {σ : Mem}
set_option maxRecDepth 100000 in
set_option maxHeartbeats 4000000 in
theorem w_X1_breaks_L29 (Z : Cz D (Ew D A) A cX1_breaks 6 (some .int) RX1 p s m args meth c) {u1 : Int32} {u2 : Int32} {u3 : Int32} (hu0 : S 0 = (10, 0)) {r : Int32} {k64 : Int32 → Option Int32}
    (hk64 : ∀ (w4 : Int32) (H : Heap) (locs : List Loc) (ls : Array Slot), St D A ad S σ s.heap H locs → lv_has ls 6 [(0, .ref (ad 0)), (1, .int u1), (2, .int u2), (3, .int u3), (4, .int w4)] → k64 w4 = some r → W p l e rm_X1_breaks s m args below meth c H locs 0 0 (MQ below (QG D A ad S (some (.int r)) σ) args s 0 0 A) (F0 m 64 ls [])) :
    ∀ (n : Nat) (v4 : Int32) (v5 : Int32) (H : Heap) (locs : List Loc) (ls : Array Slot), St D A ad S σ s.heap H locs → lv_has ls 6 [(0, .ref (ad 0)), (1, .int u1), (2, .int u2), (3, .int u3), (4, .int v4), (5, .int v5)] → f_X1_breaks_L29 k64 σ u1 u2 u3 n v4 v5 = some r → W p l e rm_X1_breaks s m args below meth c H locs 0 0 (MQ below (QG D A ad S (some (.int r)) σ) args s 0 0 A) (F0 m 29 ls []) := by
  have hx := Z.1
  have hb := Z.2.1
  have hown := Z.2.2.2.2.2.1
  have hts := Z.2.2.2.2.2.2.1
  intro n
  induction n with
  | zero => intro v4 v5 H locs ls hS hl h; cases h
  | succ n ih =>
    intro v4 v5 H locs ls hS hl h
    unfold f_X1_breaks_L29 at h
    refine lv_iload hx hb dX1_breaks_29 (lv_at hl 5 rfl) ?_
    refine lv_bipush (v := (8 : Int32)) hx hb dX1_breaks_31 (by decide) ?_
    refine lv_icmp_ge (tgt := 64) hx hb dX1_breaks_33 (by decide) (fun c6 => ?_) (fun c6 => ?_)
    · have h := if_t h c6
      exact hk64 _ _ _ _ hS (lv_sub hl [0, 1, 2, 3, 4] rfl) h
    · have h := if_f h c6
      refine lv_iload hx hb dX1_breaks_36 (lv_at hl 4 rfl) ?_
      refine lv_aload_n hx hb dX1_breaks_38 rfl (lv_at hl 0 rfl) ?_
      refine lv_iload_n hx hb dX1_breaks_39 rfl (lv_at hl 3 rfl) ?_
      refine lv_iload hx hb dX1_breaks_40 (lv_at hl 5 rfl) ?_
      refine lv_iconst (v := (1 : Int32)) hx hb dX1_breaks_42 (by decide) ?_
      refine h_ci hS h (fun z hz => h_rV (rest := [.int v4]) Z hS hu0 rfl v_X1_353 (w_X1_history hu0 hz) rfl rfl ⟨by decide, by decide⟩ rfl hl.1 rfl (Nat.le_of_ble_eq_true rfl) (Nat.zero_le _) (Nat.zero_le _) dX1_breaks_43) (fun x7 H locs hS h => ?_)
      refine lv_aload_n hx hb dX1_breaks_46 rfl (lv_at hl 0 rfl) ?_
      refine lv_iload_n hx hb dX1_breaks_47 rfl (lv_at hl 3 rfl) ?_
      refine lv_iload hx hb dX1_breaks_48 (lv_at hl 5 rfl) ?_
      refine lv_iconst (v := (2 : Int32)) hx hb dX1_breaks_50 (by decide) ?_
      refine h_ci hS h (fun z hz => h_rV (rest := [.int x7, .int v4]) Z hS hu0 rfl v_X1_353 (w_X1_history hu0 hz) rfl rfl ⟨by decide, by decide⟩ rfl hl.1 rfl (Nat.le_of_ble_eq_true rfl) (Nat.zero_le _) (Nat.zero_le _) dX1_breaks_51) (fun x8 H locs hS h => ?_)
      refine lv_iadd hx hb dX1_breaks_54 ?_
      refine lv_iadd hx hb dX1_breaks_55 ?_
      refine h_leti h (fun x9 h => ?_)
      refine lv_istore (lv' := [(4, .int x9), (0, .ref (ad 0)), (1, .int u1), (2, .int u2), (3, .int u3), (5, .int v5)]) hx hb dX1_breaks_56 hl (by decide) rfl (fun ls hl => ?_)
      refine lv_iinc (v := (v5 + (1 : Int32))) (lv' := [(5, .int (v5 + (1 : Int32))), (4, .int x9), (0, .ref (ad 0)), (1, .int u1), (2, .int u2), (3, .int u3)]) hx hb dX1_breaks_58 hl (k := 5) rfl rfl (by decide) rfl (fun ls hl => ?_)
      refine lv_goto (tgt := 29) hx hb dX1_breaks_61 (by decide) ?_
      exact ih _ _ _ _ _ hS (lv_sub hl [2, 3, 4, 5, 1, 0] rfl) h
set_option maxRecDepth 100000 in
set_option maxHeartbeats 4000000 in
theorem w_X1_breaks_L15 (Z : Cz D (Ew D A) A cX1_breaks 6 (some .int) RX1 p s m args meth c) {u1 : Int32} {u2 : Int32} (hu0 : S 0 = (10, 0)) {r : Int32} {k70 : Int32 → Option Int32} {k78 : Option Int32}
    (hk70 : ∀ (w3 : Int32) (H : Heap) (locs : List Loc) (ls : Array Slot), St D A ad S σ s.heap H locs → lv_has ls 6 [(3, .int w3)] → k70 w3 = some r → W p l e rm_X1_breaks s m args below meth c H locs 0 0 (MQ below (QG D A ad S (some (.int r)) σ) args s 0 0 A) (F0 m 70 ls []))
    (hk78 : ∀  (H : Heap) (locs : List Loc) (ls : Array Slot), St D A ad S σ s.heap H locs → lv_has ls 6 [] → k78 = some r → W p l e rm_X1_breaks s m args below meth c H locs 0 0 (MQ below (QG D A ad S (some (.int r)) σ) args s 0 0 A) (F0 m 78 ls [])) :
    ∀ (n : Nat) (v3 : Int32) (H : Heap) (locs : List Loc) (ls : Array Slot), St D A ad S σ s.heap H locs → lv_has ls 6 [(0, .ref (ad 0)), (1, .int u1), (2, .int u2), (3, .int v3)] → f_X1_breaks_L15 k70 k78 σ u1 u2 n v3 = some r → W p l e rm_X1_breaks s m args below meth c H locs 0 0 (MQ below (QG D A ad S (some (.int r)) σ) args s 0 0 A) (F0 m 15 ls []) := by
  have hx := Z.1
  have hb := Z.2.1
  have hown := Z.2.2.2.2.2.1
  have hts := Z.2.2.2.2.2.2.1
  intro n
  induction n with
  | zero => intro v3 H locs ls hS hl h; cases h
  | succ n ih =>
    intro v3 H locs ls hS hl h
    unfold f_X1_breaks_L15 at h
    refine lv_iload_n hx hb dX1_breaks_15 rfl (lv_at hl 3 rfl) ?_
    refine lv_aload_n hx hb dX1_breaks_16 rfl (lv_at hl 0 rfl) ?_
    refine h_getI Z hS cls_0 hu0 (by decide) rfl fl_X1_299_0 dX1_breaks_17 h (fun x4 h => ?_)
    refine lv_icmp_gt (tgt := 78) hx hb dX1_breaks_20 (by decide) (fun c5 => ?_) (fun c5 => ?_)
    · have h := if_t h c5
      exact hk78  _ _ _ hS (lv_sub hl [] rfl) h
    · have h := if_f h c5
      refine lv_iconst (v := (0 : Int32)) hx hb dX1_breaks_23 (by decide) ?_
      refine lv_istore (lv' := [(4, .int (0 : Int32)), (0, .ref (ad 0)), (1, .int u1), (2, .int u2), (3, .int v3)]) hx hb dX1_breaks_24 hl (by decide) rfl (fun ls hl => ?_)
      refine lv_iload_n hx hb dX1_breaks_26 rfl (lv_at hl 2 rfl) ?_
      refine lv_istore (lv' := [(5, .int u1), (4, .int (0 : Int32)), (0, .ref (ad 0)), (1, .int u1), (2, .int u2), (3, .int v3)]) hx hb dX1_breaks_27 hl (by decide) rfl (fun ls hl => ?_)
      refine w_X1_breaks_L29 Z hu0 (fun x10 H locs ls hS hl h => ?_) FU _ _ _ _ _ hS (lv_sub hl [2, 3, 4, 5, 1, 0] rfl) h
      refine lv_iload hx hb dX1_breaks_64 (lv_at hl 4 rfl) ?_
      refine lv_iload_n hx hb dX1_breaks_66 rfl (lv_at hl 2 rfl) ?_
      refine lv_icmp_le (tgt := 72) hx hb dX1_breaks_67 (by decide) (fun c11 => ?_) (fun c11 => ?_)
      · have h := if_t h c11
        refine lv_iinc (v := (v3 + (1 : Int32))) (lv' := [(3, .int (v3 + (1 : Int32))), (0, .ref (ad 0)), (1, .int u1), (2, .int u2), (4, .int x10)]) hx hb dX1_breaks_72 hl (k := 3) rfl rfl (by decide) rfl (fun ls hl => ?_)
        refine lv_goto (tgt := 15) hx hb dX1_breaks_75 (by decide) ?_
        exact ih _ _ _ _ hS (lv_sub hl [1, 2, 3, 0] rfl) h
      · have h := if_f h c11
        exact hk70 _ _ _ _ hS (lv_sub hl [3] rfl) h
set_option maxRecDepth 100000 in
set_option maxHeartbeats 4000000 in
theorem w_X1_breaks {a1 : Int32} {a2 : Int32} (hi0 : S 0 = (10, 0)) {r : Int32} (h : f_X1_breaks σ a1 a2 = some r) : Met l yX1_breaks (ws_ yX1_breaks cX1_breaks 6 (some .int)) rm_X1_breaks (va_Pc [.ref (ad 0), .int a1, .int a2] (PreG D (Ew D A) A ad S σ)) (QG D A ad S (some (.int r)) σ) 0 0 A := by
  refine y_met (by decide) (Nat.le_of_ble_eq_true rfl) (fun p e s m below meth c ls Z hS hl => ?_)
  have hx := Z.1
  have hb := Z.2.1
  have hown := Z.2.2.2.2.2.1
  have hts := Z.2.2.2.2.2.2.1
  unfold f_X1_breaks at h
  refine lv_iload_n hx hb dX1_breaks_0 rfl (lv_at hl 1 rfl) ?_
  refine h_ci hS h (fun z hz => h_rS (rest := []) Z hS v_X1_132 (w_X1_isSize hz) rfl rfl ⟨by decide, by decide⟩ rfl hl.1 rfl (Nat.le_of_ble_eq_true rfl) (Nat.zero_le _) (Nat.zero_le _) dX1_breaks_1) (fun x1 H locs hS h => ?_)
  refine lv_if_eq (tgt := 11) hx hb dX1_breaks_4 (by decide) (fun c2 => ?_) (fun c2 => ?_)
  · have h := if_t h c2
    refine lv_iconst (v := (-1 : Int32)) hx hb dX1_breaks_11 (by decide) ?_
    exact h_iret Z hS dX1_breaks_12 h
  · have h := if_f h c2
    refine lv_iload_n hx hb dX1_breaks_7 rfl (lv_at hl 2 rfl) ?_
    refine lv_if_ge (tgt := 13) hx hb dX1_breaks_8 (by decide) (fun c3 => ?_) (fun c3 => ?_)
    · have h := if_t h c3
      refine lv_iconst (v := (1 : Int32)) hx hb dX1_breaks_13 (by decide) ?_
      refine lv_istore_n (lv' := [(3, .int (1 : Int32)), (0, .ref (ad 0)), (1, .int a1), (2, .int a2)]) hx hb dX1_breaks_14 rfl hl (by decide) rfl (fun ls hl => ?_)
      refine w_X1_breaks_L15 Z hi0 (fun x12 H locs ls hS hl h => ?_) (fun  H locs ls hS hl h => ?_) FU _ _ _ _ hS (lv_sub hl [1, 2, 3, 0] rfl) h
      · refine lv_iload_n hx hb dX1_breaks_70 rfl (lv_at hl 0 rfl) ?_
        exact h_iret Z hS dX1_breaks_71 h
      · refine lv_iconst (v := (-1 : Int32)) hx hb dX1_breaks_78 (by decide) ?_
        exact h_iret Z hS dX1_breaks_79 h
    · have h := if_f h c3
      refine lv_iconst (v := (-1 : Int32)) hx hb dX1_breaks_11 (by decide) ?_
      exact h_iret Z hS dX1_breaks_12 h
end
theorem dX1_ripe_0 : decode cX1_ripe 0 = .ok (.aload_n 0, 1) := by decide +kernel
theorem dX1_ripe_1 : decode cX1_ripe 1 = .ok (.iload_n 1, 1) := by decide +kernel
theorem dX1_ripe_2 : decode cX1_ripe 2 = .ok (.invokevirtual 144, 3) := by decide +kernel
theorem dX1_ripe_5 : decode cX1_ripe 5 = .ok (.ifCond .eq 15, 3) := by decide +kernel
theorem dX1_ripe_8 : decode cX1_ripe 8 = .ok (.aload_n 0, 1) := by decide +kernel
theorem dX1_ripe_9 : decode cX1_ripe 9 = .ok (.getfield 24, 3) := by decide +kernel
theorem dX1_ripe_12 : decode cX1_ripe 12 = .ok (.iload_n 1, 1) := by decide +kernel
theorem dX1_ripe_13 : decode cX1_ripe 13 = .ok (.aaload, 1) := by decide +kernel
theorem dX1_ripe_14 : decode cX1_ripe 14 = .ok (.getfield 347, 3) := by decide +kernel
theorem dX1_ripe_17 : decode cX1_ripe 17 = .ok (.goto 4, 3) := by decide +kernel
theorem dX1_ripe_20 : decode cX1_ripe 20 = .ok (.iconst (-1), 1) := by decide +kernel
theorem dX1_ripe_21 : decode cX1_ripe 21 = .ok (.ireturn, 1) := by decide +kernel
abbrev rm_X1_ripe : Room := k2_rm 1 21
section
variable {p : Program} {l : Launch} {e : Env} {s : State} {m : MethodId} {args : Array Value} {below : List Frame} {meth : Method} {c : Code} {D : gD} {A : Nat → Prop} {ad : Nat → Nat} {S : Nat → Nat × Nat} {σ : Mem}
set_option maxRecDepth 100000 in
set_option maxHeartbeats 4000000 in
theorem w_X1_ripe {a1 : Int32} (hi0 : S 0 = (10, 0)) {r : Int32} (h : f_X1_ripe σ a1 = some r) : Met l yX1_ripe (ws_ yX1_ripe cX1_ripe 2 (some .int)) rm_X1_ripe (va_Pc [.ref (ad 0), .int a1] (PreG D (Ew D A) A ad S σ)) (QG D A ad S (some (.int r)) σ) 0 0 A := by
  refine y_met (by decide) (Nat.le_of_ble_eq_true rfl) (fun p e s m below meth c ls Z hS hl => ?_)
  have hx := Z.1
  have hb := Z.2.1
  have hown := Z.2.2.2.2.2.1
  have hts := Z.2.2.2.2.2.2.1
  unfold f_X1_ripe at h
  refine lv_aload_n hx hb dX1_ripe_0 rfl (lv_at hl 0 rfl) ?_
  refine lv_iload_n hx hb dX1_ripe_1 rfl (lv_at hl 1 rfl) ?_
  refine h_ci hS h (fun z hz => h_rV (rest := []) Z hS hi0 rfl v_X1_144 (w_X1_isFilter hi0 hz) rfl rfl ⟨by decide, by decide⟩ rfl hl.1 rfl (Nat.le_of_ble_eq_true rfl) (Nat.zero_le _) (Nat.zero_le _) dX1_ripe_2) (fun x1 H locs hS h => ?_)
  refine lv_if_eq (tgt := 20) hx hb dX1_ripe_5 (by decide) (fun c2 => ?_) (fun c2 => ?_)
  · have h := if_t h c2
    refine lv_iconst (v := (-1 : Int32)) hx hb dX1_ripe_20 (by decide) ?_
    exact h_iret Z hS dX1_ripe_21 h
  · have h := if_f h c2
    refine lv_aload_n hx hb dX1_ripe_8 rfl (lv_at hl 0 rfl) ?_
    refine h_getC (n := 3) (j := 3) (sh := (5, 8)) Z hS cls_0 hi0 (by decide) rfl rfl rfl fl_X1_24_0 dX1_ripe_9 (fun hc3 => ?_)
    refine lv_iload_n hx hb dX1_ripe_12 rfl (lv_at hl 1 rfl) ?_
    refine h_aldN (sh := (12, 0)) Z hS hc3 (by decide) (by decide) rfl dX1_ripe_13 h (fun j4 hj4 h => ?_)
    refine h_getI Z hS cls_2 hj4 (by decide) rfl fl_X1_347_2 dX1_ripe_14 h (fun x5 h => ?_)
    refine lv_goto (tgt := 21) hx hb dX1_ripe_17 (by decide) ?_
    exact h_iret Z hS dX1_ripe_21 h
end
theorem dX1_isTest_0 : decode cX1_isTest 0 = .ok (.iload_n 0, 1) := by decide +kernel
theorem dX1_isTest_1 : decode cX1_isTest 1 = .ok (.i2l, 1) := by decide +kernel
theorem dX1_isTest_2 : decode cX1_isTest 2 = .ok (.lconst 1, 1) := by decide +kernel
theorem dX1_isTest_3 : decode cX1_isTest 3 = .ok (.ldc2_w 359, 3) := by decide +kernel
theorem dX1_isTest_6 : decode cX1_isTest 6 = .ok (.invokestatic 5, 3) := by decide +kernel
theorem dX1_isTest_9 : decode cX1_isTest 9 = .ok (.ifCond .eq 29, 3) := by decide +kernel
theorem dX1_isTest_12 : decode cX1_isTest 12 = .ok (.iload_n 1, 1) := by decide +kernel
theorem dX1_isTest_13 : decode cX1_isTest 13 = .ok (.i2l, 1) := by decide +kernel
theorem dX1_isTest_14 : decode cX1_isTest 14 = .ok (.lconst 0, 1) := by decide +kernel
theorem dX1_isTest_15 : decode cX1_isTest 15 = .ok (.iload_n 0, 1) := by decide +kernel
theorem dX1_isTest_16 : decode cX1_isTest 16 = .ok (.i2l, 1) := by decide +kernel
theorem dX1_isTest_17 : decode cX1_isTest 17 = .ok (.invokestatic 5, 3) := by decide +kernel
theorem dX1_isTest_20 : decode cX1_isTest 20 = .ok (.ifCond .eq 18, 3) := by decide +kernel
theorem dX1_isTest_23 : decode cX1_isTest 23 = .ok (.iload_n 2, 1) := by decide +kernel
theorem dX1_isTest_24 : decode cX1_isTest 24 = .ok (.i2l, 1) := by decide +kernel
theorem dX1_isTest_25 : decode cX1_isTest 25 = .ok (.lconst 0, 1) := by decide +kernel
theorem dX1_isTest_26 : decode cX1_isTest 26 = .ok (.iload_n 0, 1) := by decide +kernel
theorem dX1_isTest_27 : decode cX1_isTest 27 = .ok (.i2l, 1) := by decide +kernel
theorem dX1_isTest_28 : decode cX1_isTest 28 = .ok (.invokestatic 5, 3) := by decide +kernel
theorem dX1_isTest_31 : decode cX1_isTest 31 = .ok (.ifCond .eq 7, 3) := by decide +kernel
theorem dX1_isTest_34 : decode cX1_isTest 34 = .ok (.iconst 1, 1) := by decide +kernel
theorem dX1_isTest_35 : decode cX1_isTest 35 = .ok (.goto 4, 3) := by decide +kernel
theorem dX1_isTest_38 : decode cX1_isTest 38 = .ok (.iconst 0, 1) := by decide +kernel
theorem dX1_isTest_39 : decode cX1_isTest 39 = .ok (.ireturn, 1) := by decide +kernel
abbrev rm_X1_isTest : Room := k2_rm 1 25
section
variable {p : Program} {l : Launch} {e : Env} {s : State} {m : MethodId} {args : Array Value} {below : List Frame} {meth : Method} {c : Code} {D : gD} {A : Nat → Prop} {ad : Nat → Nat} {S : Nat → Nat × Nat} {σ : Mem}
set_option maxRecDepth 100000 in
set_option maxHeartbeats 4000000 in
theorem w_X1_isTest {a1 : Int32} {a2 : Int32} {a3 : Int32} {r : Int32} (h : f_X1_isTest σ a1 a2 a3 = some r) : Met l yX1_isTest (ws_ yX1_isTest cX1_isTest 3 (some .boolean)) rm_X1_isTest (va_Pc [.int a1, .int a2, .int a3] (PreG D (Ew D A) A ad S σ)) (QG D A ad S (some (.int r)) σ) 0 0 A := by
  refine y_met (by decide) (Nat.le_of_ble_eq_true rfl) (fun p e s m below meth c ls Z hS hl => ?_)
  have hx := Z.1
  have hb := Z.2.1
  have hown := Z.2.2.2.2.2.1
  have hts := Z.2.2.2.2.2.2.1
  unfold f_X1_isTest at h
  refine lv_iload_n hx hb dX1_isTest_0 rfl (lv_at hl 0 rfl) ?_
  refine lv_i2l hx hb dX1_isTest_1 rfl ?_
  refine lv_lconst (v := (1 : Int64)) hx hb dX1_isTest_2 (by decide) ?_
  refine lv_ldc2 (v := (60 : Int64)) hx hb hown (hts _ q1049) dX1_isTest_3 ?_
  refine h_ci hS h (fun z hz => h_rS (rest := []) Z hS v_X1_5 (w_X1_isIn hz) rfl rfl ⟨by decide, by decide⟩ rfl hl.1 rfl (Nat.le_of_ble_eq_true rfl) (Nat.zero_le _) (Nat.zero_le _) dX1_isTest_6) (fun x1 H locs hS h => ?_)
  refine lv_if_eq (tgt := 38) hx hb dX1_isTest_9 (by decide) (fun c2 => ?_) (fun c2 => ?_)
  · have h := if_t h c2
    refine lv_iconst (v := (0 : Int32)) hx hb dX1_isTest_38 (by decide) ?_
    exact h_zret Z hS dX1_isTest_39 h
  · have h := if_f h c2
    refine lv_iload_n hx hb dX1_isTest_12 rfl (lv_at hl 1 rfl) ?_
    refine lv_i2l hx hb dX1_isTest_13 rfl ?_
    refine lv_lconst (v := (0 : Int64)) hx hb dX1_isTest_14 (by decide) ?_
    refine lv_iload_n hx hb dX1_isTest_15 rfl (lv_at hl 0 rfl) ?_
    refine lv_i2l hx hb dX1_isTest_16 rfl ?_
    refine h_ci hS h (fun z hz => h_rS (rest := []) Z hS v_X1_5 (w_X1_isIn hz) rfl rfl ⟨by decide, by decide⟩ rfl hl.1 rfl (Nat.le_of_ble_eq_true rfl) (Nat.zero_le _) (Nat.zero_le _) dX1_isTest_17) (fun x3 H locs hS h => ?_)
    refine lv_if_eq (tgt := 38) hx hb dX1_isTest_20 (by decide) (fun c4 => ?_) (fun c4 => ?_)
    · have h := if_t h c4
      refine lv_iconst (v := (0 : Int32)) hx hb dX1_isTest_38 (by decide) ?_
      exact h_zret Z hS dX1_isTest_39 h
    · have h := if_f h c4
      refine lv_iload_n hx hb dX1_isTest_23 rfl (lv_at hl 2 rfl) ?_
      refine lv_i2l hx hb dX1_isTest_24 rfl ?_
      refine lv_lconst (v := (0 : Int64)) hx hb dX1_isTest_25 (by decide) ?_
      refine lv_iload_n hx hb dX1_isTest_26 rfl (lv_at hl 0 rfl) ?_
      refine lv_i2l hx hb dX1_isTest_27 rfl ?_
      refine h_ci hS h (fun z hz => h_rS (rest := []) Z hS v_X1_5 (w_X1_isIn hz) rfl rfl ⟨by decide, by decide⟩ rfl hl.1 rfl (Nat.le_of_ble_eq_true rfl) (Nat.zero_le _) (Nat.zero_le _) dX1_isTest_28) (fun x5 H locs hS h => ?_)
      refine lv_if_eq (tgt := 38) hx hb dX1_isTest_31 (by decide) (fun c6 => ?_) (fun c6 => ?_)
      · have h := if_t h c6
        refine lv_iconst (v := (0 : Int32)) hx hb dX1_isTest_38 (by decide) ?_
        exact h_zret Z hS dX1_isTest_39 h
      · have h := if_f h c6
        refine lv_iconst (v := (1 : Int32)) hx hb dX1_isTest_34 (by decide) ?_
        refine lv_goto (tgt := 39) hx hb dX1_isTest_35 (by decide) ?_
        exact h_zret Z hS dX1_isTest_39 h
end
theorem dX1_gcd_0 : decode cX1_gcd 0 = .ok (.lload_n 0, 1) := by decide +kernel
theorem dX1_gcd_1 : decode cX1_gcd 1 = .ok (.lstore 4, 2) := by decide +kernel
theorem dX1_gcd_3 : decode cX1_gcd 3 = .ok (.lload_n 2, 1) := by decide +kernel
theorem dX1_gcd_4 : decode cX1_gcd 4 = .ok (.lstore 6, 2) := by decide +kernel
theorem dX1_gcd_6 : decode cX1_gcd 6 = .ok (.lload 6, 2) := by decide +kernel
theorem dX1_gcd_8 : decode cX1_gcd 8 = .ok (.lconst 0, 1) := by decide +kernel
theorem dX1_gcd_9 : decode cX1_gcd 9 = .ok (.lcmp, 1) := by decide +kernel
theorem dX1_gcd_10 : decode cX1_gcd 10 = .ok (.ifCond .eq 21, 3) := by decide +kernel
theorem dX1_gcd_13 : decode cX1_gcd 13 = .ok (.lload 4, 2) := by decide +kernel
theorem dX1_gcd_15 : decode cX1_gcd 15 = .ok (.lload 6, 2) := by decide +kernel
theorem dX1_gcd_17 : decode cX1_gcd 17 = .ok (.lrem, 1) := by decide +kernel
theorem dX1_gcd_18 : decode cX1_gcd 18 = .ok (.lstore 8, 2) := by decide +kernel
theorem dX1_gcd_20 : decode cX1_gcd 20 = .ok (.lload 6, 2) := by decide +kernel
theorem dX1_gcd_22 : decode cX1_gcd 22 = .ok (.lstore 4, 2) := by decide +kernel
theorem dX1_gcd_24 : decode cX1_gcd 24 = .ok (.lload 8, 2) := by decide +kernel
theorem dX1_gcd_26 : decode cX1_gcd 26 = .ok (.lstore 6, 2) := by decide +kernel
theorem dX1_gcd_28 : decode cX1_gcd 28 = .ok (.goto (-22), 3) := by decide +kernel
theorem dX1_gcd_31 : decode cX1_gcd 31 = .ok (.lload 4, 2) := by decide +kernel
theorem dX1_gcd_33 : decode cX1_gcd 33 = .ok (.lreturn, 1) := by decide +kernel
abbrev rm_X1_gcd : Room := k2_rm 0 0
section
variable {p : Program} {l : Launch} {e : Env} {s : State} {m : MethodId} {args : Array Value} {below : List Frame} {meth : Method} {c : Code} {D : gD} {A : Nat → Prop} {ad : Nat → Nat} {S : Nat → Nat × Nat} {σ : Mem}
set_option maxRecDepth 100000 in
set_option maxHeartbeats 4000000 in
theorem w_X1_gcd_L6 (Z : Cz D (Ew D A) A cX1_gcd 10 (some .long) RX1 p s m args meth c) {r : Int64} {k31 : Int64 → Option Int64}
    (hk31 : ∀ (w4 : Int64) (H : Heap) (locs : List Loc) (ls : Array Slot), St D A ad S σ s.heap H locs → lv_has ls 10 [(4, .long w4)] → k31 w4 = some r → W p l e rm_X1_gcd s m args below meth c H locs 0 0 (MQ below (QG D A ad S (some (.long r)) σ) args s 0 0 A) (F0 m 31 ls [])) :
    ∀ (n : Nat) (v4 : Int64) (v6 : Int64) (H : Heap) (locs : List Loc) (ls : Array Slot), St D A ad S σ s.heap H locs → lv_has ls 10 [(4, .long v4), (6, .long v6)] → f_X1_gcd_L6 k31 σ n v4 v6 = some r → W p l e rm_X1_gcd s m args below meth c H locs 0 0 (MQ below (QG D A ad S (some (.long r)) σ) args s 0 0 A) (F0 m 6 ls []) := by
  have hx := Z.1
  have hb := Z.2.1
  have hown := Z.2.2.2.2.2.1
  have hts := Z.2.2.2.2.2.2.1
  intro n
  induction n with
  | zero => intro v4 v6 H locs ls hS hl h; cases h
  | succ n ih =>
    intro v4 v6 H locs ls hS hl h
    unfold f_X1_gcd_L6 at h
    refine lv_lload hx hb dX1_gcd_6 (lv_at hl 1 rfl) ?_
    refine lv_lconst (v := (0 : Int64)) hx hb dX1_gcd_8 (by decide) ?_
    refine y_lcmp_eq (tgt := 31) hx hb dX1_gcd_9 dX1_gcd_10 (by decide) (fun c1 => ?_) (fun c1 => ?_)
    · have h := if_t h c1
      exact hk31 _ _ _ _ hS (lv_sub hl [0] rfl) h
    · have h := if_f h c1
      refine lv_lload hx hb dX1_gcd_13 (lv_at hl 0 rfl) ?_
      refine lv_lload hx hb dX1_gcd_15 (lv_at hl 1 rfl) ?_
      refine h_lrem Z dX1_gcd_17 h (fun h => ?_)
      refine h_letl h (fun y2 h => ?_)
      refine lv_lstore (lv' := [(8, .long y2), (4, .long v4), (6, .long v6)]) hx hb dX1_gcd_18 hl (by decide) rfl (fun ls hl => ?_)
      refine lv_lload hx hb dX1_gcd_20 (lv_at hl 2 rfl) ?_
      refine lv_lstore (lv' := [(4, .long v6), (8, .long y2), (6, .long v6)]) hx hb dX1_gcd_22 hl (by decide) rfl (fun ls hl => ?_)
      refine lv_lload hx hb dX1_gcd_24 (lv_at hl 1 rfl) ?_
      refine lv_lstore (lv' := [(6, .long y2), (4, .long v6), (8, .long y2)]) hx hb dX1_gcd_26 hl (by decide) rfl (fun ls hl => ?_)
      refine lv_goto (tgt := 6) hx hb dX1_gcd_28 (by decide) ?_
      exact ih _ _ _ _ _ hS (lv_sub hl [1, 0] rfl) h
set_option maxRecDepth 100000 in
set_option maxHeartbeats 4000000 in
theorem w_X1_gcd {a1 : Int64} {a2 : Int64} {r : Int64} (h : f_X1_gcd σ a1 a2 = some r) : Met l yX1_gcd (ws_ yX1_gcd cX1_gcd 10 (some .long)) rm_X1_gcd (va_Pc [.long a1, .long a2] (PreG D (Ew D A) A ad S σ)) (QG D A ad S (some (.long r)) σ) 0 0 A := by
  refine y_met (by decide) (Nat.le_of_ble_eq_true rfl) (fun p e s m below meth c ls Z hS hl => ?_)
  have hx := Z.1
  have hb := Z.2.1
  have hown := Z.2.2.2.2.2.1
  have hts := Z.2.2.2.2.2.2.1
  unfold f_X1_gcd at h
  refine lv_lload_n hx hb dX1_gcd_0 rfl (lv_at hl 0 rfl) ?_
  refine lv_lstore (lv' := [(4, .long a1), (0, .long a1), (2, .long a2)]) hx hb dX1_gcd_1 hl (by decide) rfl (fun ls hl => ?_)
  refine lv_lload_n hx hb dX1_gcd_3 rfl (lv_at hl 2 rfl) ?_
  refine lv_lstore (lv' := [(6, .long a2), (4, .long a1), (0, .long a1), (2, .long a2)]) hx hb dX1_gcd_4 hl (by decide) rfl (fun ls hl => ?_)
  refine w_X1_gcd_L6 Z (fun y3 H locs ls hS hl h => ?_) FU _ _ _ _ _ hS (lv_sub hl [1, 0] rfl) h
  refine lv_lload hx hb dX1_gcd_31 (lv_at hl 0 rfl) ?_
  exact h_lret Z hS dX1_gcd_33 h
end
theorem dX1_ways_0 : decode cX1_ways 0 = .ok (.lconst 1, 1) := by decide +kernel
theorem dX1_ways_1 : decode cX1_ways 1 = .ok (.lstore_n 2, 1) := by decide +kernel
theorem dX1_ways_2 : decode cX1_ways 2 = .ok (.iconst 0, 1) := by decide +kernel
theorem dX1_ways_3 : decode cX1_ways 3 = .ok (.istore 4, 2) := by decide +kernel
theorem dX1_ways_5 : decode cX1_ways 5 = .ok (.iload 4, 2) := by decide +kernel
theorem dX1_ways_7 : decode cX1_ways 7 = .ok (.iload_n 1, 1) := by decide +kernel
theorem dX1_ways_8 : decode cX1_ways 8 = .ok (.if_icmp .ge 40, 3) := by decide +kernel
theorem dX1_ways_11 : decode cX1_ways 11 = .ok (.lload_n 2, 1) := by decide +kernel
theorem dX1_ways_12 : decode cX1_ways 12 = .ok (.iload 4, 2) := by decide +kernel
theorem dX1_ways_14 : decode cX1_ways 14 = .ok (.iconst 1, 1) := by decide +kernel
theorem dX1_ways_15 : decode cX1_ways 15 = .ok (.iadd, 1) := by decide +kernel
theorem dX1_ways_16 : decode cX1_ways 16 = .ok (.i2l, 1) := by decide +kernel
theorem dX1_ways_17 : decode cX1_ways 17 = .ok (.invokestatic 356, 3) := by decide +kernel
theorem dX1_ways_20 : decode cX1_ways 20 = .ok (.lstore 5, 2) := by decide +kernel
theorem dX1_ways_22 : decode cX1_ways 22 = .ok (.lload_n 2, 1) := by decide +kernel
theorem dX1_ways_23 : decode cX1_ways 23 = .ok (.lload 5, 2) := by decide +kernel
theorem dX1_ways_25 : decode cX1_ways 25 = .ok (.ldiv, 1) := by decide +kernel
theorem dX1_ways_26 : decode cX1_ways 26 = .ok (.iload_n 0, 1) := by decide +kernel
theorem dX1_ways_27 : decode cX1_ways 27 = .ok (.iload 4, 2) := by decide +kernel
theorem dX1_ways_29 : decode cX1_ways 29 = .ok (.isub, 1) := by decide +kernel
theorem dX1_ways_30 : decode cX1_ways 30 = .ok (.i2l, 1) := by decide +kernel
theorem dX1_ways_31 : decode cX1_ways 31 = .ok (.iload 4, 2) := by decide +kernel
theorem dX1_ways_33 : decode cX1_ways 33 = .ok (.iconst 1, 1) := by decide +kernel
theorem dX1_ways_34 : decode cX1_ways 34 = .ok (.iadd, 1) := by decide +kernel
theorem dX1_ways_35 : decode cX1_ways 35 = .ok (.i2l, 1) := by decide +kernel
theorem dX1_ways_36 : decode cX1_ways 36 = .ok (.lload 5, 2) := by decide +kernel
theorem dX1_ways_38 : decode cX1_ways 38 = .ok (.ldiv, 1) := by decide +kernel
theorem dX1_ways_39 : decode cX1_ways 39 = .ok (.ldiv, 1) := by decide +kernel
theorem dX1_ways_40 : decode cX1_ways 40 = .ok (.lmul, 1) := by decide +kernel
theorem dX1_ways_41 : decode cX1_ways 41 = .ok (.lstore_n 2, 1) := by decide +kernel
theorem dX1_ways_42 : decode cX1_ways 42 = .ok (.iinc 4 1, 3) := by decide +kernel
theorem dX1_ways_45 : decode cX1_ways 45 = .ok (.goto (-40), 3) := by decide +kernel
theorem dX1_ways_48 : decode cX1_ways 48 = .ok (.lload_n 2, 1) := by decide +kernel
theorem dX1_ways_49 : decode cX1_ways 49 = .ok (.lreturn, 1) := by decide +kernel
abbrev rm_X1_ways : Room := k2_rm 1 29
section
variable {p : Program} {l : Launch} {e : Env} {s : State} {m : MethodId} {args : Array Value} {below : List Frame} {meth : Method} {c : Code} {D : gD} {A : Nat → Prop} {ad : Nat → Nat} {S : Nat → Nat × Nat} {σ : Mem}
set_option maxRecDepth 100000 in
set_option maxHeartbeats 4000000 in
theorem w_X1_ways_L5 (Z : Cz D (Ew D A) A cX1_ways 7 (some .long) RX1 p s m args meth c) {u0 : Int32} {u1 : Int32} {r : Int64} {k48 : Int64 → Option Int64}
    (hk48 : ∀ (w2 : Int64) (H : Heap) (locs : List Loc) (ls : Array Slot), St D A ad S σ s.heap H locs → lv_has ls 7 [(2, .long w2)] → k48 w2 = some r → W p l e rm_X1_ways s m args below meth c H locs 0 0 (MQ below (QG D A ad S (some (.long r)) σ) args s 0 0 A) (F0 m 48 ls [])) :
    ∀ (n : Nat) (v2 : Int64) (v4 : Int32) (H : Heap) (locs : List Loc) (ls : Array Slot), St D A ad S σ s.heap H locs → lv_has ls 7 [(0, .int u0), (1, .int u1), (2, .long v2), (4, .int v4)] → f_X1_ways_L5 k48 σ u0 u1 n v2 v4 = some r → W p l e rm_X1_ways s m args below meth c H locs 0 0 (MQ below (QG D A ad S (some (.long r)) σ) args s 0 0 A) (F0 m 5 ls []) := by
  have hx := Z.1
  have hb := Z.2.1
  have hown := Z.2.2.2.2.2.1
  have hts := Z.2.2.2.2.2.2.1
  intro n
  induction n with
  | zero => intro v2 v4 H locs ls hS hl h; cases h
  | succ n ih =>
    intro v2 v4 H locs ls hS hl h
    unfold f_X1_ways_L5 at h
    refine lv_iload hx hb dX1_ways_5 (lv_at hl 3 rfl) ?_
    refine lv_iload_n hx hb dX1_ways_7 rfl (lv_at hl 1 rfl) ?_
    refine lv_icmp_ge (tgt := 48) hx hb dX1_ways_8 (by decide) (fun c1 => ?_) (fun c1 => ?_)
    · have h := if_t h c1
      exact hk48 _ _ _ _ hS (lv_sub hl [2] rfl) h
    · have h := if_f h c1
      refine lv_lload_n hx hb dX1_ways_11 rfl (lv_at hl 2 rfl) ?_
      refine lv_iload hx hb dX1_ways_12 (lv_at hl 3 rfl) ?_
      refine lv_iconst (v := (1 : Int32)) hx hb dX1_ways_14 (by decide) ?_
      refine lv_iadd hx hb dX1_ways_15 ?_
      refine lv_i2l hx hb dX1_ways_16 rfl ?_
      refine h_cl hS h (fun z hz => h_rS (rest := []) Z hS v_X1_356 (w_X1_gcd hz) rfl rfl ⟨by decide, by decide⟩ rfl hl.1 rfl (Nat.le_of_ble_eq_true rfl) (Nat.zero_le _) (Nat.zero_le _) dX1_ways_17) (fun y2 H locs hS h => ?_)
      refine lv_lstore (lv' := [(5, .long y2), (0, .int u0), (1, .int u1), (2, .long v2), (4, .int v4)]) hx hb dX1_ways_20 hl (by decide) rfl (fun ls hl => ?_)
      refine lv_lload_n hx hb dX1_ways_22 rfl (lv_at hl 3 rfl) ?_
      refine lv_lload hx hb dX1_ways_23 (lv_at hl 0 rfl) ?_
      refine h_ldiv Z dX1_ways_25 h (fun h => ?_)
      refine lv_iload_n hx hb dX1_ways_26 rfl (lv_at hl 1 rfl) ?_
      refine lv_iload hx hb dX1_ways_27 (lv_at hl 4 rfl) ?_
      refine lv_isub hx hb dX1_ways_29 ?_
      refine lv_i2l hx hb dX1_ways_30 rfl ?_
      refine lv_iload hx hb dX1_ways_31 (lv_at hl 4 rfl) ?_
      refine lv_iconst (v := (1 : Int32)) hx hb dX1_ways_33 (by decide) ?_
      refine lv_iadd hx hb dX1_ways_34 ?_
      refine lv_i2l hx hb dX1_ways_35 rfl ?_
      refine lv_lload hx hb dX1_ways_36 (lv_at hl 0 rfl) ?_
      refine h_ldiv Z dX1_ways_38 h (fun h => ?_)
      refine h_ldiv Z dX1_ways_39 h (fun h => ?_)
      refine lv_lmul hx hb dX1_ways_40 ?_
      refine h_letl h (fun y3 h => ?_)
      refine lv_lstore_n (lv' := [(2, .long y3), (5, .long y2), (0, .int u0), (1, .int u1), (4, .int v4)]) hx hb dX1_ways_41 rfl hl (by decide) rfl (fun ls hl => ?_)
      refine lv_iinc (v := (v4 + (1 : Int32))) (lv' := [(4, .int (v4 + (1 : Int32))), (2, .long y3), (5, .long y2), (0, .int u0), (1, .int u1)]) hx hb dX1_ways_42 hl (k := 4) rfl rfl (by decide) rfl (fun ls hl => ?_)
      refine lv_goto (tgt := 5) hx hb dX1_ways_45 (by decide) ?_
      exact ih _ _ _ _ _ hS (lv_sub hl [3, 4, 1, 0] rfl) h
set_option maxRecDepth 100000 in
set_option maxHeartbeats 4000000 in
theorem w_X1_ways {a1 : Int32} {a2 : Int32} {r : Int64} (h : f_X1_ways σ a1 a2 = some r) : Met l yX1_ways (ws_ yX1_ways cX1_ways 7 (some .long)) rm_X1_ways (va_Pc [.int a1, .int a2] (PreG D (Ew D A) A ad S σ)) (QG D A ad S (some (.long r)) σ) 0 0 A := by
  refine y_met (by decide) (Nat.le_of_ble_eq_true rfl) (fun p e s m below meth c ls Z hS hl => ?_)
  have hx := Z.1
  have hb := Z.2.1
  have hown := Z.2.2.2.2.2.1
  have hts := Z.2.2.2.2.2.2.1
  unfold f_X1_ways at h
  refine lv_lconst (v := (1 : Int64)) hx hb dX1_ways_0 (by decide) ?_
  refine lv_lstore_n (lv' := [(2, .long (1 : Int64)), (0, .int a1), (1, .int a2)]) hx hb dX1_ways_1 rfl hl (by decide) rfl (fun ls hl => ?_)
  refine lv_iconst (v := (0 : Int32)) hx hb dX1_ways_2 (by decide) ?_
  refine lv_istore (lv' := [(4, .int (0 : Int32)), (2, .long (1 : Int64)), (0, .int a1), (1, .int a2)]) hx hb dX1_ways_3 hl (by decide) rfl (fun ls hl => ?_)
  refine w_X1_ways_L5 Z (fun y4 H locs ls hS hl h => ?_) FU _ _ _ _ _ hS (lv_sub hl [2, 3, 1, 0] rfl) h
  refine lv_lload_n hx hb dX1_ways_48 rfl (lv_at hl 0 rfl) ?_
  exact h_lret Z hS dX1_ways_49 h
end
theorem dX1_share_0 : decode cX1_share 0 = .ok (.iload_n 1, 1) := by decide +kernel
theorem dX1_share_1 : decode cX1_share 1 = .ok (.iload_n 2, 1) := by decide +kernel
theorem dX1_share_2 : decode cX1_share 2 = .ok (.iload_n 3, 1) := by decide +kernel
theorem dX1_share_3 : decode cX1_share 3 = .ok (.invokestatic 361, 3) := by decide +kernel
theorem dX1_share_6 : decode cX1_share 6 = .ok (.ifCond .eq 14, 3) := by decide +kernel
theorem dX1_share_9 : decode cX1_share 9 = .ok (.iload 4, 2) := by decide +kernel
theorem dX1_share_11 : decode cX1_share 11 = .ok (.i2l, 1) := by decide +kernel
theorem dX1_share_12 : decode cX1_share 12 = .ok (.lconst 0, 1) := by decide +kernel
theorem dX1_share_13 : decode cX1_share 13 = .ok (.lconst 1, 1) := by decide +kernel
theorem dX1_share_14 : decode cX1_share 14 = .ok (.invokestatic 5, 3) := by decide +kernel
theorem dX1_share_17 : decode cX1_share 17 = .ok (.ifCond .ne 7, 3) := by decide +kernel
theorem dX1_share_20 : decode cX1_share 20 = .ok (.ldc2_w 365, 3) := by decide +kernel
theorem dX1_share_23 : decode cX1_share 23 = .ok (.lreturn, 1) := by decide +kernel
theorem dX1_share_24 : decode cX1_share 24 = .ok (.iload_n 3, 1) := by decide +kernel
theorem dX1_share_25 : decode cX1_share 25 = .ok (.iload_n 1, 1) := by decide +kernel
theorem dX1_share_26 : decode cX1_share 26 = .ok (.iload_n 2, 1) := by decide +kernel
theorem dX1_share_27 : decode cX1_share 27 = .ok (.isub, 1) := by decide +kernel
theorem dX1_share_28 : decode cX1_share 28 = .ok (.if_icmp .le 7, 3) := by decide +kernel
theorem dX1_share_31 : decode cX1_share 31 = .ok (.lconst 0, 1) := by decide +kernel
theorem dX1_share_32 : decode cX1_share 32 = .ok (.goto 10, 3) := by decide +kernel
theorem dX1_share_35 : decode cX1_share 35 = .ok (.iload_n 1, 1) := by decide +kernel
theorem dX1_share_36 : decode cX1_share 36 = .ok (.iload_n 2, 1) := by decide +kernel
theorem dX1_share_37 : decode cX1_share 37 = .ok (.isub, 1) := by decide +kernel
theorem dX1_share_38 : decode cX1_share 38 = .ok (.iload_n 3, 1) := by decide +kernel
theorem dX1_share_39 : decode cX1_share 39 = .ok (.invokestatic 367, 3) := by decide +kernel
theorem dX1_share_42 : decode cX1_share 42 = .ok (.lstore 5, 2) := by decide +kernel
theorem dX1_share_44 : decode cX1_share 44 = .ok (.iload_n 1, 1) := by decide +kernel
theorem dX1_share_45 : decode cX1_share 45 = .ok (.iload_n 3, 1) := by decide +kernel
theorem dX1_share_46 : decode cX1_share 46 = .ok (.invokestatic 367, 3) := by decide +kernel
theorem dX1_share_49 : decode cX1_share 49 = .ok (.lstore 7, 2) := by decide +kernel
theorem dX1_share_51 : decode cX1_share 51 = .ok (.lload 7, 2) := by decide +kernel
theorem dX1_share_53 : decode cX1_share 53 = .ok (.lload 5, 2) := by decide +kernel
theorem dX1_share_55 : decode cX1_share 55 = .ok (.invokestatic 356, 3) := by decide +kernel
theorem dX1_share_58 : decode cX1_share 58 = .ok (.lstore 9, 2) := by decide +kernel
theorem dX1_share_60 : decode cX1_share 60 = .ok (.iload 4, 2) := by decide +kernel
theorem dX1_share_62 : decode cX1_share 62 = .ok (.ifCond .ne 8, 3) := by decide +kernel
theorem dX1_share_65 : decode cX1_share 65 = .ok (.lload 5, 2) := by decide +kernel
theorem dX1_share_67 : decode cX1_share 67 = .ok (.goto 5, 3) := by decide +kernel
theorem dX1_share_70 : decode cX1_share 70 = .ok (.lload 7, 2) := by decide +kernel
theorem dX1_share_72 : decode cX1_share 72 = .ok (.lload 9, 2) := by decide +kernel
theorem dX1_share_74 : decode cX1_share 74 = .ok (.ldiv, 1) := by decide +kernel
theorem dX1_share_75 : decode cX1_share 75 = .ok (.lreturn, 1) := by decide +kernel
abbrev rm_X1_share : Room := k2_rm 2 55
section
variable {p : Program} {l : Launch} {e : Env} {s : State} {m : MethodId} {args : Array Value} {below : List Frame} {meth : Method} {c : Code} {D : gD} {A : Nat → Prop} {ad : Nat → Nat} {S : Nat → Nat × Nat} {σ : Mem}
set_option maxRecDepth 100000 in
set_option maxHeartbeats 4000000 in
theorem w_X1_share {a1 : Int32} {a2 : Int32} {a3 : Int32} {a4 : Int32} (hi0 : S 0 = (10, 0)) {r : Int64} (h : f_X1_share σ a1 a2 a3 a4 = some r) : Met l yX1_share (ws_ yX1_share cX1_share 11 (some .long)) rm_X1_share (va_Pc [.ref (ad 0), .int a1, .int a2, .int a3, .int a4] (PreG D (Ew D A) A ad S σ)) (QG D A ad S (some (.long r)) σ) 0 0 A := by
  refine y_met (by decide) (Nat.le_of_ble_eq_true rfl) (fun p e s m below meth c ls Z hS hl => ?_)
  have hx := Z.1
  have hb := Z.2.1
  have hown := Z.2.2.2.2.2.1
  have hts := Z.2.2.2.2.2.2.1
  unfold f_X1_share at h
  refine lv_iload_n hx hb dX1_share_0 rfl (lv_at hl 1 rfl) ?_
  refine lv_iload_n hx hb dX1_share_1 rfl (lv_at hl 2 rfl) ?_
  refine lv_iload_n hx hb dX1_share_2 rfl (lv_at hl 3 rfl) ?_
  refine h_ci hS h (fun z hz => h_rS (rest := []) Z hS v_X1_361 (w_X1_isTest hz) rfl rfl ⟨by decide, by decide⟩ rfl hl.1 rfl (Nat.le_of_ble_eq_true rfl) (Nat.zero_le _) (Nat.zero_le _) dX1_share_3) (fun x1 H locs hS h => ?_)
  refine lv_if_eq (tgt := 20) hx hb dX1_share_6 (by decide) (fun c2 => ?_) (fun c2 => ?_)
  · have h := if_t h c2
    refine lv_ldc2 (v := (-1 : Int64)) hx hb hown (hts _ q1050) dX1_share_20 ?_
    exact h_lret Z hS dX1_share_23 h
  · have h := if_f h c2
    refine lv_iload hx hb dX1_share_9 (lv_at hl 4 rfl) ?_
    refine lv_i2l hx hb dX1_share_11 rfl ?_
    refine lv_lconst (v := (0 : Int64)) hx hb dX1_share_12 (by decide) ?_
    refine lv_lconst (v := (1 : Int64)) hx hb dX1_share_13 (by decide) ?_
    refine h_ci hS h (fun z hz => h_rS (rest := []) Z hS v_X1_5 (w_X1_isIn hz) rfl rfl ⟨by decide, by decide⟩ rfl hl.1 rfl (Nat.le_of_ble_eq_true rfl) (Nat.zero_le _) (Nat.zero_le _) dX1_share_14) (fun x3 H locs hS h => ?_)
    refine lv_if_ne (tgt := 24) hx hb dX1_share_17 (by decide) (fun c4 => ?_) (fun c4 => ?_)
    · have h := if_f h c4
      refine lv_iload_n hx hb dX1_share_24 rfl (lv_at hl 3 rfl) ?_
      refine lv_iload_n hx hb dX1_share_25 rfl (lv_at hl 1 rfl) ?_
      refine lv_iload_n hx hb dX1_share_26 rfl (lv_at hl 2 rfl) ?_
      refine lv_isub hx hb dX1_share_27 ?_
      obtain ⟨y6, hp7, h⟩ := bnd_el h
      have K7 : ∀ (H : Heap) (locs : List Loc) (ls : Array Slot), St D A ad S σ s.heap H locs → lv_has ls 11 [(1, .int a1), (3, .int a3), (4, .int a4)] → W p l e rm_X1_share s m ([.ref (ad 0), .int a1, .int a2, .int a3, .int a4] : List Value).toArray below meth c H locs 0 0 (MQ below (QG D A ad S (some (.long r)) σ) ([.ref (ad 0), .int a1, .int a2, .int a3, .int a4] : List Value).toArray s 0 0 A) (F0 m 42 ls [.long y6]) := by
        intro H locs ls hS hl
        refine lv_lstore (lv' := [(5, .long y6), (1, .int a1), (3, .int a3), (4, .int a4)]) hx hb dX1_share_42 hl (by decide) rfl (fun ls hl => ?_)
        refine lv_iload_n hx hb dX1_share_44 rfl (lv_at hl 1 rfl) ?_
        refine lv_iload_n hx hb dX1_share_45 rfl (lv_at hl 2 rfl) ?_
        refine h_cl hS h (fun z hz => h_rS (rest := []) Z hS v_X1_367 (w_X1_ways hz) rfl rfl ⟨by decide, by decide⟩ rfl hl.1 rfl (Nat.le_of_ble_eq_true rfl) (Nat.zero_le _) (Nat.zero_le _) dX1_share_46) (fun y8 H locs hS h => ?_)
        refine lv_lstore (lv' := [(7, .long y8), (5, .long y6), (1, .int a1), (3, .int a3), (4, .int a4)]) hx hb dX1_share_49 hl (by decide) rfl (fun ls hl => ?_)
        refine lv_lload hx hb dX1_share_51 (lv_at hl 0 rfl) ?_
        refine lv_lload hx hb dX1_share_53 (lv_at hl 1 rfl) ?_
        refine h_cl hS h (fun z hz => h_rS (rest := []) Z hS v_X1_356 (w_X1_gcd hz) rfl rfl ⟨by decide, by decide⟩ rfl hl.1 rfl (Nat.le_of_ble_eq_true rfl) (Nat.zero_le _) (Nat.zero_le _) dX1_share_55) (fun y9 H locs hS h => ?_)
        refine lv_lstore (lv' := [(9, .long y9), (7, .long y8), (5, .long y6), (1, .int a1), (3, .int a3), (4, .int a4)]) hx hb dX1_share_58 hl (by decide) rfl (fun ls hl => ?_)
        refine lv_iload hx hb dX1_share_60 (lv_at hl 5 rfl) ?_
        refine lv_if_ne (tgt := 70) hx hb dX1_share_62 (by decide) (fun c10 => ?_) (fun c10 => ?_)
        · have h := if_f h c10
          refine lv_lload hx hb dX1_share_70 (lv_at hl 1 rfl) ?_
          refine lv_lload hx hb dX1_share_72 (lv_at hl 0 rfl) ?_
          refine h_ldiv Z dX1_share_74 h (fun h => ?_)
          exact h_lret Z hS dX1_share_75 h
        · have h := if_t h c10
          refine lv_lload hx hb dX1_share_65 (lv_at hl 2 rfl) ?_
          refine lv_goto (tgt := 72) hx hb dX1_share_67 (by decide) ?_
          refine lv_lload hx hb dX1_share_72 (lv_at hl 0 rfl) ?_
          refine h_ldiv Z dX1_share_74 h (fun h => ?_)
          exact h_lret Z hS dX1_share_75 h
      clear h
      have h := hp7
      clear hp7
      refine lv_icmp_le (tgt := 35) hx hb dX1_share_28 (by decide) (fun c5 => ?_) (fun c5 => ?_)
      · have h := if_t h c5
        refine lv_iload_n hx hb dX1_share_35 rfl (lv_at hl 1 rfl) ?_
        refine lv_iload_n hx hb dX1_share_36 rfl (lv_at hl 2 rfl) ?_
        refine lv_isub hx hb dX1_share_37 ?_
        refine lv_iload_n hx hb dX1_share_38 rfl (lv_at hl 3 rfl) ?_
        refine h_cl hS h (fun z hz => h_rS (rest := []) Z hS v_X1_367 (w_X1_ways hz) rfl rfl ⟨by decide, by decide⟩ rfl hl.1 rfl (Nat.le_of_ble_eq_true rfl) (Nat.zero_le _) (Nat.zero_le _) dX1_share_39) (fun y11 H locs hS h => ?_)
        cases h
        exact K7 _ _ _ hS (lv_sub hl [1, 3, 4] rfl)
      · have h := if_f h c5
        refine lv_lconst (v := (0 : Int64)) hx hb dX1_share_31 (by decide) ?_
        refine lv_goto (tgt := 42) hx hb dX1_share_32 (by decide) ?_
        cases h
        exact K7 _ _ _ hS (lv_sub hl [1, 3, 4] rfl)
    · have h := if_t h c4
      refine lv_ldc2 (v := (-1 : Int64)) hx hb hown (hts _ q1050) dX1_share_20 ?_
      exact h_lret Z hS dX1_share_23 h
end
theorem dX1_drops_0 : decode cX1_drops 0 = .ok (.iload_n 1, 1) := by decide +kernel
theorem dX1_drops_1 : decode cX1_drops 1 = .ok (.iload_n 2, 1) := by decide +kernel
theorem dX1_drops_2 : decode cX1_drops 2 = .ok (.iconst 0, 1) := by decide +kernel
theorem dX1_drops_3 : decode cX1_drops 3 = .ok (.invokestatic 361, 3) := by decide +kernel
theorem dX1_drops_6 : decode cX1_drops 6 = .ok (.ifCond .eq 15, 3) := by decide +kernel
theorem dX1_drops_9 : decode cX1_drops 9 = .ok (.iload_n 3, 1) := by decide +kernel
theorem dX1_drops_10 : decode cX1_drops 10 = .ok (.i2l, 1) := by decide +kernel
theorem dX1_drops_11 : decode cX1_drops 11 = .ok (.lconst 1, 1) := by decide +kernel
theorem dX1_drops_12 : decode cX1_drops 12 = .ok (.ldc2_w 231, 3) := by decide +kernel
theorem dX1_drops_15 : decode cX1_drops 15 = .ok (.invokestatic 5, 3) := by decide +kernel
theorem dX1_drops_18 : decode cX1_drops 18 = .ok (.ifCond .ne 5, 3) := by decide +kernel
theorem dX1_drops_21 : decode cX1_drops 21 = .ok (.iconst (-1), 1) := by decide +kernel
theorem dX1_drops_22 : decode cX1_drops 22 = .ok (.ireturn, 1) := by decide +kernel
theorem dX1_drops_23 : decode cX1_drops 23 = .ok (.iconst 0, 1) := by decide +kernel
theorem dX1_drops_24 : decode cX1_drops 24 = .ok (.istore 4, 2) := by decide +kernel
theorem dX1_drops_26 : decode cX1_drops 26 = .ok (.iload 4, 2) := by decide +kernel
theorem dX1_drops_28 : decode cX1_drops 28 = .ok (.iload_n 1, 1) := by decide +kernel
theorem dX1_drops_29 : decode cX1_drops 29 = .ok (.if_icmp .gt 37, 3) := by decide +kernel
theorem dX1_drops_32 : decode cX1_drops 32 = .ok (.aload_n 0, 1) := by decide +kernel
theorem dX1_drops_33 : decode cX1_drops 33 = .ok (.iload_n 1, 1) := by decide +kernel
theorem dX1_drops_34 : decode cX1_drops 34 = .ok (.iload_n 2, 1) := by decide +kernel
theorem dX1_drops_35 : decode cX1_drops 35 = .ok (.iload 4, 2) := by decide +kernel
theorem dX1_drops_37 : decode cX1_drops 37 = .ok (.iconst 0, 1) := by decide +kernel
theorem dX1_drops_38 : decode cX1_drops 38 = .ok (.invokevirtual 371, 3) := by decide +kernel
theorem dX1_drops_41 : decode cX1_drops 41 = .ok (.aload_n 0, 1) := by decide +kernel
theorem dX1_drops_42 : decode cX1_drops 42 = .ok (.iload_n 1, 1) := by decide +kernel
theorem dX1_drops_43 : decode cX1_drops 43 = .ok (.iload_n 2, 1) := by decide +kernel
theorem dX1_drops_44 : decode cX1_drops 44 = .ok (.iload 4, 2) := by decide +kernel
theorem dX1_drops_46 : decode cX1_drops 46 = .ok (.iconst 1, 1) := by decide +kernel
theorem dX1_drops_47 : decode cX1_drops 47 = .ok (.invokevirtual 371, 3) := by decide +kernel
theorem dX1_drops_50 : decode cX1_drops 50 = .ok (.iload_n 3, 1) := by decide +kernel
theorem dX1_drops_51 : decode cX1_drops 51 = .ok (.i2l, 1) := by decide +kernel
theorem dX1_drops_52 : decode cX1_drops 52 = .ok (.ldiv, 1) := by decide +kernel
theorem dX1_drops_53 : decode cX1_drops 53 = .ok (.lcmp, 1) := by decide +kernel
theorem dX1_drops_54 : decode cX1_drops 54 = .ok (.ifCond .gt 6, 3) := by decide +kernel
theorem dX1_drops_57 : decode cX1_drops 57 = .ok (.iload 4, 2) := by decide +kernel
theorem dX1_drops_59 : decode cX1_drops 59 = .ok (.ireturn, 1) := by decide +kernel
theorem dX1_drops_60 : decode cX1_drops 60 = .ok (.iinc 4 1, 3) := by decide +kernel
theorem dX1_drops_63 : decode cX1_drops 63 = .ok (.goto (-37), 3) := by decide +kernel
theorem dX1_drops_66 : decode cX1_drops 66 = .ok (.iconst (-1), 1) := by decide +kernel
theorem dX1_drops_67 : decode cX1_drops 67 = .ok (.ireturn, 1) := by decide +kernel
abbrev rm_X1_drops : Room := k2_rm 3 85
section
variable {p : Program} {l : Launch} {e : Env} {s : State} {m : MethodId} {args : Array Value} {below : List Frame} {meth : Method} {c : Code} {D : gD} {A : Nat → Prop} {ad : Nat → Nat} {S : Nat → Nat × Nat} {σ : Mem}
set_option maxRecDepth 100000 in
set_option maxHeartbeats 4000000 in
theorem w_X1_drops_L26 (Z : Cz D (Ew D A) A cX1_drops 5 (some .int) RX1 p s m args meth c) {u1 : Int32} {u2 : Int32} {u3 : Int32} (hu0 : S 0 = (10, 0)) {r : Int32} {k57 : Int32 → Option Int32} {k66 : Option Int32}
    (hk57 : ∀ (w4 : Int32) (H : Heap) (locs : List Loc) (ls : Array Slot), St D A ad S σ s.heap H locs → lv_has ls 5 [(4, .int w4)] → k57 w4 = some r → W p l e rm_X1_drops s m args below meth c H locs 0 0 (MQ below (QG D A ad S (some (.int r)) σ) args s 0 0 A) (F0 m 57 ls []))
    (hk66 : ∀  (H : Heap) (locs : List Loc) (ls : Array Slot), St D A ad S σ s.heap H locs → lv_has ls 5 [] → k66 = some r → W p l e rm_X1_drops s m args below meth c H locs 0 0 (MQ below (QG D A ad S (some (.int r)) σ) args s 0 0 A) (F0 m 66 ls [])) :
    ∀ (n : Nat) (v4 : Int32) (H : Heap) (locs : List Loc) (ls : Array Slot), St D A ad S σ s.heap H locs → lv_has ls 5 [(0, .ref (ad 0)), (1, .int u1), (2, .int u2), (3, .int u3), (4, .int v4)] → f_X1_drops_L26 k57 k66 σ u1 u2 u3 n v4 = some r → W p l e rm_X1_drops s m args below meth c H locs 0 0 (MQ below (QG D A ad S (some (.int r)) σ) args s 0 0 A) (F0 m 26 ls []) := by
  have hx := Z.1
  have hb := Z.2.1
  have hown := Z.2.2.2.2.2.1
  have hts := Z.2.2.2.2.2.2.1
  intro n
  induction n with
  | zero => intro v4 H locs ls hS hl h; cases h
  | succ n ih =>
    intro v4 H locs ls hS hl h
    unfold f_X1_drops_L26 at h
    refine lv_iload hx hb dX1_drops_26 (lv_at hl 4 rfl) ?_
    refine lv_iload_n hx hb dX1_drops_28 rfl (lv_at hl 1 rfl) ?_
    refine lv_icmp_gt (tgt := 66) hx hb dX1_drops_29 (by decide) (fun c5 => ?_) (fun c5 => ?_)
    · have h := if_t h c5
      exact hk66  _ _ _ hS (lv_sub hl [] rfl) h
    · have h := if_f h c5
      refine lv_aload_n hx hb dX1_drops_32 rfl (lv_at hl 0 rfl) ?_
      refine lv_iload_n hx hb dX1_drops_33 rfl (lv_at hl 1 rfl) ?_
      refine lv_iload_n hx hb dX1_drops_34 rfl (lv_at hl 2 rfl) ?_
      refine lv_iload hx hb dX1_drops_35 (lv_at hl 4 rfl) ?_
      refine lv_iconst (v := (0 : Int32)) hx hb dX1_drops_37 (by decide) ?_
      refine h_cl hS h (fun z hz => h_rV (rest := []) Z hS hu0 rfl v_X1_371 (w_X1_share hu0 hz) rfl rfl ⟨by decide, by decide⟩ rfl hl.1 rfl (Nat.le_of_ble_eq_true rfl) (Nat.zero_le _) (Nat.zero_le _) dX1_drops_38) (fun y6 H locs hS h => ?_)
      refine lv_aload_n hx hb dX1_drops_41 rfl (lv_at hl 0 rfl) ?_
      refine lv_iload_n hx hb dX1_drops_42 rfl (lv_at hl 1 rfl) ?_
      refine lv_iload_n hx hb dX1_drops_43 rfl (lv_at hl 2 rfl) ?_
      refine lv_iload hx hb dX1_drops_44 (lv_at hl 4 rfl) ?_
      refine lv_iconst (v := (1 : Int32)) hx hb dX1_drops_46 (by decide) ?_
      refine h_cl hS h (fun z hz => h_rV (rest := [.long y6]) Z hS hu0 rfl v_X1_371 (w_X1_share hu0 hz) rfl rfl ⟨by decide, by decide⟩ rfl hl.1 rfl (Nat.le_of_ble_eq_true rfl) (Nat.zero_le _) (Nat.zero_le _) dX1_drops_47) (fun y7 H locs hS h => ?_)
      refine lv_iload_n hx hb dX1_drops_50 rfl (lv_at hl 3 rfl) ?_
      refine lv_i2l hx hb dX1_drops_51 rfl ?_
      refine h_ldiv Z dX1_drops_52 h (fun h => ?_)
      refine y_lcmp_gt (tgt := 60) hx hb dX1_drops_53 dX1_drops_54 (by decide) (fun c8 => ?_) (fun c8 => ?_)
      · have h := if_t h c8
        refine lv_iinc (v := (v4 + (1 : Int32))) (lv' := [(4, .int (v4 + (1 : Int32))), (0, .ref (ad 0)), (1, .int u1), (2, .int u2), (3, .int u3)]) hx hb dX1_drops_60 hl (k := 4) rfl rfl (by decide) rfl (fun ls hl => ?_)
        refine lv_goto (tgt := 26) hx hb dX1_drops_63 (by decide) ?_
        exact ih _ _ _ _ hS (lv_sub hl [1, 2, 3, 4, 0] rfl) h
      · have h := if_f h c8
        exact hk57 _ _ _ _ hS (lv_sub hl [4] rfl) h
set_option maxRecDepth 100000 in
set_option maxHeartbeats 4000000 in
theorem w_X1_drops {a1 : Int32} {a2 : Int32} {a3 : Int32} (hi0 : S 0 = (10, 0)) {r : Int32} (h : f_X1_drops σ a1 a2 a3 = some r) : Met l yX1_drops (ws_ yX1_drops cX1_drops 5 (some .int)) rm_X1_drops (va_Pc [.ref (ad 0), .int a1, .int a2, .int a3] (PreG D (Ew D A) A ad S σ)) (QG D A ad S (some (.int r)) σ) 0 0 A := by
  refine y_met (by decide) (Nat.le_of_ble_eq_true rfl) (fun p e s m below meth c ls Z hS hl => ?_)
  have hx := Z.1
  have hb := Z.2.1
  have hown := Z.2.2.2.2.2.1
  have hts := Z.2.2.2.2.2.2.1
  unfold f_X1_drops at h
  refine lv_iload_n hx hb dX1_drops_0 rfl (lv_at hl 1 rfl) ?_
  refine lv_iload_n hx hb dX1_drops_1 rfl (lv_at hl 2 rfl) ?_
  refine lv_iconst (v := (0 : Int32)) hx hb dX1_drops_2 (by decide) ?_
  refine h_ci hS h (fun z hz => h_rS (rest := []) Z hS v_X1_361 (w_X1_isTest hz) rfl rfl ⟨by decide, by decide⟩ rfl hl.1 rfl (Nat.le_of_ble_eq_true rfl) (Nat.zero_le _) (Nat.zero_le _) dX1_drops_3) (fun x1 H locs hS h => ?_)
  refine lv_if_eq (tgt := 21) hx hb dX1_drops_6 (by decide) (fun c2 => ?_) (fun c2 => ?_)
  · have h := if_t h c2
    refine lv_iconst (v := (-1 : Int32)) hx hb dX1_drops_21 (by decide) ?_
    exact h_iret Z hS dX1_drops_22 h
  · have h := if_f h c2
    refine lv_iload_n hx hb dX1_drops_9 rfl (lv_at hl 3 rfl) ?_
    refine lv_i2l hx hb dX1_drops_10 rfl ?_
    refine lv_lconst (v := (1 : Int64)) hx hb dX1_drops_11 (by decide) ?_
    refine lv_ldc2 (v := (1000000 : Int64)) hx hb hown (hts _ q943) dX1_drops_12 ?_
    refine h_ci hS h (fun z hz => h_rS (rest := []) Z hS v_X1_5 (w_X1_isIn hz) rfl rfl ⟨by decide, by decide⟩ rfl hl.1 rfl (Nat.le_of_ble_eq_true rfl) (Nat.zero_le _) (Nat.zero_le _) dX1_drops_15) (fun x3 H locs hS h => ?_)
    refine lv_if_ne (tgt := 23) hx hb dX1_drops_18 (by decide) (fun c4 => ?_) (fun c4 => ?_)
    · have h := if_f h c4
      refine lv_iconst (v := (0 : Int32)) hx hb dX1_drops_23 (by decide) ?_
      refine lv_istore (lv' := [(4, .int (0 : Int32)), (0, .ref (ad 0)), (1, .int a1), (2, .int a2), (3, .int a3)]) hx hb dX1_drops_24 hl (by decide) rfl (fun ls hl => ?_)
      refine w_X1_drops_L26 Z hi0 (fun x9 H locs ls hS hl h => ?_) (fun  H locs ls hS hl h => ?_) FU _ _ _ _ hS (lv_sub hl [1, 2, 3, 4, 0] rfl) h
      · refine lv_iload hx hb dX1_drops_57 (lv_at hl 0 rfl) ?_
        exact h_iret Z hS dX1_drops_59 h
      · refine lv_iconst (v := (-1 : Int32)) hx hb dX1_drops_66 (by decide) ?_
        exact h_iret Z hS dX1_drops_67 h
    · have h := if_t h c4
      refine lv_iconst (v := (-1 : Int32)) hx hb dX1_drops_21 (by decide) ?_
      exact h_iret Z hS dX1_drops_22 h
end
theorem dX1_layer_0 : decode cX1_layer 0 = .ok (.aload_n 0, 1) := by decide +kernel
theorem dX1_layer_1 : decode cX1_layer 1 = .ok (.getfield 374, 3) := by decide +kernel
theorem dX1_layer_4 : decode cX1_layer 4 = .ok (.bipush 6, 2) := by decide +kernel
theorem dX1_layer_6 : decode cX1_layer 6 = .ok (.if_icmp .eq 27, 3) := by decide +kernel
theorem dX1_layer_9 : decode cX1_layer 9 = .ok (.iload_n 1, 1) := by decide +kernel
theorem dX1_layer_10 : decode cX1_layer 10 = .ok (.i2l, 1) := by decide +kernel
theorem dX1_layer_11 : decode cX1_layer 11 = .ok (.lconst 1, 1) := by decide +kernel
theorem dX1_layer_12 : decode cX1_layer 12 = .ok (.ldc2_w 150, 3) := by decide +kernel
theorem dX1_layer_15 : decode cX1_layer 15 = .ok (.invokestatic 5, 3) := by decide +kernel
theorem dX1_layer_18 : decode cX1_layer 18 = .ok (.ifCond .eq 15, 3) := by decide +kernel
theorem dX1_layer_21 : decode cX1_layer 21 = .ok (.iload_n 2, 1) := by decide +kernel
theorem dX1_layer_22 : decode cX1_layer 22 = .ok (.i2l, 1) := by decide +kernel
theorem dX1_layer_23 : decode cX1_layer 23 = .ok (.lconst 1, 1) := by decide +kernel
theorem dX1_layer_24 : decode cX1_layer 24 = .ok (.ldc2_w 138, 3) := by decide +kernel
theorem dX1_layer_27 : decode cX1_layer 27 = .ok (.invokestatic 5, 3) := by decide +kernel
theorem dX1_layer_30 : decode cX1_layer 30 = .ok (.ifCond .ne 5, 3) := by decide +kernel
theorem dX1_layer_33 : decode cX1_layer 33 = .ok (.iconst (-1), 1) := by decide +kernel
theorem dX1_layer_34 : decode cX1_layer 34 = .ok (.ireturn, 1) := by decide +kernel
theorem dX1_layer_35 : decode cX1_layer 35 = .ok (.aload_n 0, 1) := by decide +kernel
theorem dX1_layer_36 : decode cX1_layer 36 = .ok (.getfield 79, 3) := by decide +kernel
theorem dX1_layer_39 : decode cX1_layer 39 = .ok (.aload_n 0, 1) := by decide +kernel
theorem dX1_layer_40 : decode cX1_layer 40 = .ok (.getfield 374, 3) := by decide +kernel
theorem dX1_layer_43 : decode cX1_layer 43 = .ok (.iload_n 1, 1) := by decide +kernel
theorem dX1_layer_44 : decode cX1_layer 44 = .ok (.iastore, 1) := by decide +kernel
theorem dX1_layer_45 : decode cX1_layer 45 = .ok (.aload_n 0, 1) := by decide +kernel
theorem dX1_layer_46 : decode cX1_layer 46 = .ok (.getfield 82, 3) := by decide +kernel
theorem dX1_layer_49 : decode cX1_layer 49 = .ok (.aload_n 0, 1) := by decide +kernel
theorem dX1_layer_50 : decode cX1_layer 50 = .ok (.getfield 374, 3) := by decide +kernel
theorem dX1_layer_53 : decode cX1_layer 53 = .ok (.iload_n 2, 1) := by decide +kernel
theorem dX1_layer_54 : decode cX1_layer 54 = .ok (.iastore, 1) := by decide +kernel
theorem dX1_layer_55 : decode cX1_layer 55 = .ok (.aload_n 0, 1) := by decide +kernel
theorem dX1_layer_56 : decode cX1_layer 56 = .ok (.dup, 1) := by decide +kernel
theorem dX1_layer_57 : decode cX1_layer 57 = .ok (.getfield 374, 3) := by decide +kernel
theorem dX1_layer_60 : decode cX1_layer 60 = .ok (.iconst 1, 1) := by decide +kernel
theorem dX1_layer_61 : decode cX1_layer 61 = .ok (.iadd, 1) := by decide +kernel
theorem dX1_layer_62 : decode cX1_layer 62 = .ok (.putfield 374, 3) := by decide +kernel
theorem dX1_layer_65 : decode cX1_layer 65 = .ok (.aload_n 0, 1) := by decide +kernel
theorem dX1_layer_66 : decode cX1_layer 66 = .ok (.getfield 374, 3) := by decide +kernel
theorem dX1_layer_69 : decode cX1_layer 69 = .ok (.iconst 1, 1) := by decide +kernel
theorem dX1_layer_70 : decode cX1_layer 70 = .ok (.isub, 1) := by decide +kernel
theorem dX1_layer_71 : decode cX1_layer 71 = .ok (.ireturn, 1) := by decide +kernel
abbrev rm_X1_layer : Room := k2_rm 1 25
section
variable {p : Program} {l : Launch} {e : Env} {s : State} {m : MethodId} {args : Array Value} {below : List Frame} {meth : Method} {c : Code} {D : gD} {A : Nat → Prop} {ad : Nat → Nat} {S : Nat → Nat × Nat} {σ : Mem}
set_option maxRecDepth 100000 in
set_option maxHeartbeats 4000000 in
theorem w_X1_layer {a1 : Int32} {a2 : Int32} (hi0 : S 0 = (10, 0)) {r : (Mem × Int32)} (h : f_X1_layer σ a1 a2 = some r) : Met l yX1_layer (ws_ yX1_layer cX1_layer 3 (some .int)) rm_X1_layer (va_Pc [.ref (ad 0), .int a1, .int a2] (PreG D (Ew D A) A ad S σ)) (QG D A ad S (some (.int r.2)) r.1) 0 0 A := by
  refine y_met (by decide) (Nat.le_of_ble_eq_true rfl) (fun p e s m below meth c ls Z hS hl => ?_)
  have hx := Z.1
  have hb := Z.2.1
  have hown := Z.2.2.2.2.2.1
  have hts := Z.2.2.2.2.2.2.1
  unfold f_X1_layer at h
  refine lv_aload_n hx hb dX1_layer_0 rfl (lv_at hl 0 rfl) ?_
  refine h_getI Z hS cls_0 hi0 (by decide) rfl fl_X1_374_0 dX1_layer_1 h (fun x1 h => ?_)
  refine lv_bipush (v := (6 : Int32)) hx hb dX1_layer_4 (by decide) ?_
  refine lv_icmp_eq (tgt := 33) hx hb dX1_layer_6 (by decide) (fun c2 => ?_) (fun c2 => ?_)
  · have h := if_t h c2
    refine lv_iconst (v := (-1 : Int32)) hx hb dX1_layer_33 (by decide) ?_
    exact h_iretm Z hS dX1_layer_34 h
  · have h := if_f h c2
    refine lv_iload_n hx hb dX1_layer_9 rfl (lv_at hl 1 rfl) ?_
    refine lv_i2l hx hb dX1_layer_10 rfl ?_
    refine lv_lconst (v := (1 : Int64)) hx hb dX1_layer_11 (by decide) ?_
    refine lv_ldc2 (v := (20 : Int64)) hx hb hown (hts _ q371) dX1_layer_12 ?_
    refine h_ci hS h (fun z hz => h_rS (rest := []) Z hS v_X1_5 (w_X1_isIn hz) rfl rfl ⟨by decide, by decide⟩ rfl hl.1 rfl (Nat.le_of_ble_eq_true rfl) (Nat.zero_le _) (Nat.zero_le _) dX1_layer_15) (fun x3 H locs hS h => ?_)
    refine lv_if_eq (tgt := 33) hx hb dX1_layer_18 (by decide) (fun c4 => ?_) (fun c4 => ?_)
    · have h := if_t h c4
      refine lv_iconst (v := (-1 : Int32)) hx hb dX1_layer_33 (by decide) ?_
      exact h_iretm Z hS dX1_layer_34 h
    · have h := if_f h c4
      refine lv_iload_n hx hb dX1_layer_21 rfl (lv_at hl 2 rfl) ?_
      refine lv_i2l hx hb dX1_layer_22 rfl ?_
      refine lv_lconst (v := (1 : Int64)) hx hb dX1_layer_23 (by decide) ?_
      refine lv_ldc2 (v := (1000 : Int64)) hx hb hown (hts _ q358) dX1_layer_24 ?_
      refine h_ci hS h (fun z hz => h_rS (rest := []) Z hS v_X1_5 (w_X1_isIn hz) rfl rfl ⟨by decide, by decide⟩ rfl hl.1 rfl (Nat.le_of_ble_eq_true rfl) (Nat.zero_le _) (Nat.zero_le _) dX1_layer_27) (fun x5 H locs hS h => ?_)
      refine lv_if_ne (tgt := 35) hx hb dX1_layer_30 (by decide) (fun c6 => ?_) (fun c6 => ?_)
      · have h := if_f h c6
        refine lv_aload_n hx hb dX1_layer_35 rfl (lv_at hl 0 rfl) ?_
        refine h_getC (n := 23) (j := 23) (sh := (1, 6)) Z hS cls_0 hi0 (by decide) rfl rfl rfl fl_X1_79_0 dX1_layer_36 (fun hc7 => ?_)
        refine lv_aload_n hx hb dX1_layer_39 rfl (lv_at hl 0 rfl) ?_
        refine h_getI Z hS cls_0 hi0 (by decide) rfl fl_X1_374_0 dX1_layer_40 h (fun x8 h => ?_)
        refine lv_iload_n hx hb dX1_layer_43 rfl (lv_at hl 1 rfl) ?_
        refine h_iast Z hS hc7 dX1_layer_44 h (fun σ9 H locs hS h => ?_)
        refine lv_aload_n hx hb dX1_layer_45 rfl (lv_at hl 0 rfl) ?_
        refine h_getC (n := 24) (j := 24) (sh := (1, 6)) Z hS cls_0 hi0 (by decide) rfl rfl rfl fl_X1_82_0 dX1_layer_46 (fun hc10 => ?_)
        refine lv_aload_n hx hb dX1_layer_49 rfl (lv_at hl 0 rfl) ?_
        refine h_getI Z hS cls_0 hi0 (by decide) rfl fl_X1_374_0 dX1_layer_50 h (fun x11 h => ?_)
        refine lv_iload_n hx hb dX1_layer_53 rfl (lv_at hl 2 rfl) ?_
        refine h_iast Z hS hc10 dX1_layer_54 h (fun σ12 H locs hS h => ?_)
        refine lv_aload_n hx hb dX1_layer_55 rfl (lv_at hl 0 rfl) ?_
        refine lv_dup hx hb dX1_layer_56 rfl ?_
        refine h_getI Z hS cls_0 hi0 (by decide) rfl fl_X1_374_0 dX1_layer_57 h (fun x13 h => ?_)
        refine lv_iconst (v := (1 : Int32)) hx hb dX1_layer_60 (by decide) ?_
        refine lv_iadd hx hb dX1_layer_61 ?_
        refine h_putI Z hS cls_0 hi0 (by decide) rfl rfl rfl fl_X1_374_0 dX1_layer_62 h (fun σ14 H locs hS h => ?_)
        refine lv_aload_n hx hb dX1_layer_65 rfl (lv_at hl 0 rfl) ?_
        refine h_getI Z hS cls_0 hi0 (by decide) rfl fl_X1_374_0 dX1_layer_66 h (fun x15 h => ?_)
        refine lv_iconst (v := (1 : Int32)) hx hb dX1_layer_69 (by decide) ?_
        refine lv_isub hx hb dX1_layer_70 ?_
        exact h_iretm Z hS dX1_layer_71 h
      · have h := if_t h c6
        refine lv_iconst (v := (-1 : Int32)) hx hb dX1_layer_33 (by decide) ?_
        exact h_iretm Z hS dX1_layer_34 h
end
theorem dX1_lasts_0 : decode cX1_lasts 0 = .ok (.aload_n 0, 1) := by decide +kernel
theorem dX1_lasts_1 : decode cX1_lasts 1 = .ok (.getfield 98, 3) := by decide +kernel
theorem dX1_lasts_4 : decode cX1_lasts 4 = .ok (.aload_n 0, 1) := by decide +kernel
theorem dX1_lasts_5 : decode cX1_lasts 5 = .ok (.getfield 374, 3) := by decide +kernel
theorem dX1_lasts_8 : decode cX1_lasts 8 = .ok (.putfield 147, 3) := by decide +kernel
theorem dX1_lasts_11 : decode cX1_lasts 11 = .ok (.iconst 0, 1) := by decide +kernel
theorem dX1_lasts_12 : decode cX1_lasts 12 = .ok (.istore_n 2, 1) := by decide +kernel
theorem dX1_lasts_13 : decode cX1_lasts 13 = .ok (.iload_n 2, 1) := by decide +kernel
theorem dX1_lasts_14 : decode cX1_lasts 14 = .ok (.aload_n 0, 1) := by decide +kernel
theorem dX1_lasts_15 : decode cX1_lasts 15 = .ok (.getfield 374, 3) := by decide +kernel
theorem dX1_lasts_18 : decode cX1_lasts 18 = .ok (.if_icmp .ge 29, 3) := by decide +kernel
theorem dX1_lasts_21 : decode cX1_lasts 21 = .ok (.aload_n 0, 1) := by decide +kernel
theorem dX1_lasts_22 : decode cX1_lasts 22 = .ok (.getfield 98, 3) := by decide +kernel
theorem dX1_lasts_25 : decode cX1_lasts 25 = .ok (.getfield 156, 3) := by decide +kernel
theorem dX1_lasts_28 : decode cX1_lasts 28 = .ok (.iload_n 2, 1) := by decide +kernel
theorem dX1_lasts_29 : decode cX1_lasts 29 = .ok (.aload_n 0, 1) := by decide +kernel
theorem dX1_lasts_30 : decode cX1_lasts 30 = .ok (.getfield 93, 3) := by decide +kernel
theorem dX1_lasts_33 : decode cX1_lasts 33 = .ok (.aload_n 0, 1) := by decide +kernel
theorem dX1_lasts_34 : decode cX1_lasts 34 = .ok (.getfield 85, 3) := by decide +kernel
theorem dX1_lasts_37 : decode cX1_lasts 37 = .ok (.iload_n 2, 1) := by decide +kernel
theorem dX1_lasts_38 : decode cX1_lasts 38 = .ok (.iaload, 1) := by decide +kernel
theorem dX1_lasts_39 : decode cX1_lasts 39 = .ok (.aaload, 1) := by decide +kernel
theorem dX1_lasts_40 : decode cX1_lasts 40 = .ok (.aastore, 1) := by decide +kernel
theorem dX1_lasts_41 : decode cX1_lasts 41 = .ok (.iinc 2 1, 3) := by decide +kernel
theorem dX1_lasts_44 : decode cX1_lasts 44 = .ok (.goto (-31), 3) := by decide +kernel
theorem dX1_lasts_47 : decode cX1_lasts 47 = .ok (.aload_n 0, 1) := by decide +kernel
theorem dX1_lasts_48 : decode cX1_lasts 48 = .ok (.getfield 98, 3) := by decide +kernel
theorem dX1_lasts_51 : decode cX1_lasts 51 = .ok (.aload_n 0, 1) := by decide +kernel
theorem dX1_lasts_52 : decode cX1_lasts 52 = .ok (.getfield 45, 3) := by decide +kernel
theorem dX1_lasts_55 : decode cX1_lasts 55 = .ok (.invokevirtual 323, 3) := by decide +kernel
theorem dX1_lasts_58 : decode cX1_lasts 58 = .ok (.iconst 0, 1) := by decide +kernel
theorem dX1_lasts_59 : decode cX1_lasts 59 = .ok (.istore_n 2, 1) := by decide +kernel
theorem dX1_lasts_60 : decode cX1_lasts 60 = .ok (.iload_n 2, 1) := by decide +kernel
theorem dX1_lasts_61 : decode cX1_lasts 61 = .ok (.bipush 100, 2) := by decide +kernel
theorem dX1_lasts_63 : decode cX1_lasts 63 = .ok (.if_icmp .ge 100, 3) := by decide +kernel
theorem dX1_lasts_66 : decode cX1_lasts 66 = .ok (.iconst 0, 1) := by decide +kernel
theorem dX1_lasts_67 : decode cX1_lasts 67 = .ok (.istore_n 3, 1) := by decide +kernel
theorem dX1_lasts_68 : decode cX1_lasts 68 = .ok (.iconst 0, 1) := by decide +kernel
theorem dX1_lasts_69 : decode cX1_lasts 69 = .ok (.istore 4, 2) := by decide +kernel
theorem dX1_lasts_71 : decode cX1_lasts 71 = .ok (.iload 4, 2) := by decide +kernel
theorem dX1_lasts_73 : decode cX1_lasts 73 = .ok (.bipush 8, 2) := by decide +kernel
theorem dX1_lasts_75 : decode cX1_lasts 75 = .ok (.if_icmp .ge 26, 3) := by decide +kernel
theorem dX1_lasts_78 : decode cX1_lasts 78 = .ok (.aload_n 0, 1) := by decide +kernel
theorem dX1_lasts_79 : decode cX1_lasts 79 = .ok (.getfield 98, 3) := by decide +kernel
theorem dX1_lasts_82 : decode cX1_lasts 82 = .ok (.getfield 330, 3) := by decide +kernel
theorem dX1_lasts_85 : decode cX1_lasts 85 = .ok (.iload 4, 2) := by decide +kernel
theorem dX1_lasts_87 : decode cX1_lasts 87 = .ok (.aload_n 0, 1) := by decide +kernel
theorem dX1_lasts_88 : decode cX1_lasts 88 = .ok (.getfield 42, 3) := by decide +kernel
theorem dX1_lasts_91 : decode cX1_lasts 91 = .ok (.iload 4, 2) := by decide +kernel
theorem dX1_lasts_93 : decode cX1_lasts 93 = .ok (.iaload, 1) := by decide +kernel
theorem dX1_lasts_94 : decode cX1_lasts 94 = .ok (.iastore, 1) := by decide +kernel
theorem dX1_lasts_95 : decode cX1_lasts 95 = .ok (.iinc 4 1, 3) := by decide +kernel
theorem dX1_lasts_98 : decode cX1_lasts 98 = .ok (.goto (-27), 3) := by decide +kernel
theorem dX1_lasts_101 : decode cX1_lasts 101 = .ok (.aload_n 0, 1) := by decide +kernel
theorem dX1_lasts_102 : decode cX1_lasts 102 = .ok (.getfield 98, 3) := by decide +kernel
theorem dX1_lasts_105 : decode cX1_lasts 105 = .ok (.aload_n 0, 1) := by decide +kernel
theorem dX1_lasts_106 : decode cX1_lasts 106 = .ok (.getfield 294, 3) := by decide +kernel
theorem dX1_lasts_109 : decode cX1_lasts 109 = .ok (.invokevirtual 225, 3) := by decide +kernel
theorem dX1_lasts_112 : decode cX1_lasts 112 = .ok (.iconst (-1), 1) := by decide +kernel
theorem dX1_lasts_113 : decode cX1_lasts 113 = .ok (.if_icmp .ne 14, 3) := by decide +kernel
theorem dX1_lasts_116 : decode cX1_lasts 116 = .ok (.aload_n 0, 1) := by decide +kernel
theorem dX1_lasts_117 : decode cX1_lasts 117 = .ok (.getfield 98, 3) := by decide +kernel
theorem dX1_lasts_120 : decode cX1_lasts 120 = .ok (.invokevirtual 345, 3) := by decide +kernel
theorem dX1_lasts_123 : decode cX1_lasts 123 = .ok (.istore_n 3, 1) := by decide +kernel
theorem dX1_lasts_124 : decode cX1_lasts 124 = .ok (.goto 26, 3) := by decide +kernel
theorem dX1_lasts_127 : decode cX1_lasts 127 = .ok (.aload_n 0, 1) := by decide +kernel
theorem dX1_lasts_128 : decode cX1_lasts 128 = .ok (.getfield 98, 3) := by decide +kernel
theorem dX1_lasts_131 : decode cX1_lasts 131 = .ok (.aload_n 0, 1) := by decide +kernel
theorem dX1_lasts_132 : decode cX1_lasts 132 = .ok (.getfield 18, 3) := by decide +kernel
theorem dX1_lasts_135 : decode cX1_lasts 135 = .ok (.aload_n 0, 1) := by decide +kernel
theorem dX1_lasts_136 : decode cX1_lasts 136 = .ok (.getfield 45, 3) := by decide +kernel
theorem dX1_lasts_139 : decode cX1_lasts 139 = .ok (.invokevirtual 341, 3) := by decide +kernel
theorem dX1_lasts_142 : decode cX1_lasts 142 = .ok (.aload_n 0, 1) := by decide +kernel
theorem dX1_lasts_143 : decode cX1_lasts 143 = .ok (.getfield 98, 3) := by decide +kernel
theorem dX1_lasts_146 : decode cX1_lasts 146 = .ok (.getfield 222, 3) := by decide +kernel
theorem dX1_lasts_149 : decode cX1_lasts 149 = .ok (.istore_n 3, 1) := by decide +kernel
theorem dX1_lasts_150 : decode cX1_lasts 150 = .ok (.iload_n 3, 1) := by decide +kernel
theorem dX1_lasts_151 : decode cX1_lasts 151 = .ok (.iload_n 1, 1) := by decide +kernel
theorem dX1_lasts_152 : decode cX1_lasts 152 = .ok (.if_icmp .le 5, 3) := by decide +kernel
theorem dX1_lasts_155 : decode cX1_lasts 155 = .ok (.iload_n 2, 1) := by decide +kernel
theorem dX1_lasts_156 : decode cX1_lasts 156 = .ok (.ireturn, 1) := by decide +kernel
theorem dX1_lasts_157 : decode cX1_lasts 157 = .ok (.iinc 2 1, 3) := by decide +kernel
theorem dX1_lasts_160 : decode cX1_lasts 160 = .ok (.goto (-100), 3) := by decide +kernel
theorem dX1_lasts_163 : decode cX1_lasts 163 = .ok (.bipush 100, 2) := by decide +kernel
theorem dX1_lasts_165 : decode cX1_lasts 165 = .ok (.ireturn, 1) := by decide +kernel
abbrev rm_X1_lasts : Room := k2_rm 6 132
section
variable {p : Program} {l : Launch} {e : Env} {s : State} {m : MethodId} {args : Array Value} {below : List Frame} {meth : Method} {c : Code} {D : gD} {A : Nat → Prop} {ad : Nat → Nat} {S : Nat → Nat × Nat} {σ : Mem}
set_option maxRecDepth 100000 in
set_option maxHeartbeats 4000000 in
theorem w_X1_lasts_L13 (Z : Cz D (Ew D A) A cX1_lasts 5 (some .int) RX1 p s m args meth c) {u1 : Int32} (hu0 : S 0 = (10, 0)) {r : (Mem × Int32)} {k47 : Mem → Option (Mem × Int32)}
    (hk47 : ∀ (σ : Mem)  (H : Heap) (locs : List Loc) (ls : Array Slot), St D A ad S σ s.heap H locs → lv_has ls 5 [(0, .ref (ad 0)), (1, .int u1)] → k47 σ = some r → W p l e rm_X1_lasts s m args below meth c H locs 0 0 (MQ below (QG D A ad S (some (.int r.2)) r.1) args s 0 0 A) (F0 m 47 ls [])) :
    ∀ (n : Nat) (σ : Mem) (v2 : Int32) (H : Heap) (locs : List Loc) (ls : Array Slot), St D A ad S σ s.heap H locs → lv_has ls 5 [(0, .ref (ad 0)), (1, .int u1), (2, .int v2)] → f_X1_lasts_L13 k47 u1 n σ v2 = some r → W p l e rm_X1_lasts s m args below meth c H locs 0 0 (MQ below (QG D A ad S (some (.int r.2)) r.1) args s 0 0 A) (F0 m 13 ls []) := by
  have hx := Z.1
  have hb := Z.2.1
  have hown := Z.2.2.2.2.2.1
  have hts := Z.2.2.2.2.2.2.1
  intro n
  induction n with
  | zero => intro σ v2 H locs ls hS hl h; cases h
  | succ n ih =>
    intro σ v2 H locs ls hS hl h
    unfold f_X1_lasts_L13 at h
    refine lv_iload_n hx hb dX1_lasts_13 rfl (lv_at hl 2 rfl) ?_
    refine lv_aload_n hx hb dX1_lasts_14 rfl (lv_at hl 0 rfl) ?_
    refine h_getI Z hS cls_0 hu0 (by decide) rfl fl_X1_374_0 dX1_lasts_15 h (fun x4 h => ?_)
    refine lv_icmp_ge (tgt := 47) hx hb dX1_lasts_18 (by decide) (fun c5 => ?_) (fun c5 => ?_)
    · have h := if_t h c5
      exact hk47 _ _ _ _ hS (lv_sub hl [0, 1] rfl) h
    · have h := if_f h c5
      refine lv_aload_n hx hb dX1_lasts_21 rfl (lv_at hl 0 rfl) ?_
      refine h_getC (n := 110) (j := 110) (sh := (12, 0)) Z hS cls_0 hu0 (by decide) rfl rfl rfl fl_X1_98_0 dX1_lasts_22 (fun hc6 => ?_)
      refine h_getC (n := 1) (j := 111) (sh := (6, 10)) Z hS cls_2 hc6 (by decide) rfl rfl rfl fl_X1_156_2 dX1_lasts_25 (fun hc7 => ?_)
      refine lv_iload_n hx hb dX1_lasts_28 rfl (lv_at hl 2 rfl) ?_
      refine lv_aload_n hx hb dX1_lasts_29 rfl (lv_at hl 0 rfl) ?_
      refine h_getC (n := 29) (j := 29) (sh := (6, 6)) Z hS cls_0 hu0 (by decide) rfl rfl rfl fl_X1_93_0 dX1_lasts_30 (fun hc8 => ?_)
      refine lv_aload_n hx hb dX1_lasts_33 rfl (lv_at hl 0 rfl) ?_
      refine h_getC (n := 25) (j := 25) (sh := (1, 6)) Z hS cls_0 hu0 (by decide) rfl rfl rfl fl_X1_85_0 dX1_lasts_34 (fun hc9 => ?_)
      refine lv_iload_n hx hb dX1_lasts_37 rfl (lv_at hl 2 rfl) ?_
      refine h_iald Z hS hc9 dX1_lasts_38 h (fun x10 h => ?_)
      refine h_aldN (sh := (14, 0)) Z hS hc8 (by decide) (by decide) rfl dX1_lasts_39 h (fun j11 hj11 h => ?_)
      refine h_aast Z hS hc7 (by decide) (by decide) hj11 dX1_lasts_40 h (fun σ12 H locs hS h => ?_)
      refine lv_iinc (v := (v2 + (1 : Int32))) (lv' := [(2, .int (v2 + (1 : Int32))), (0, .ref (ad 0)), (1, .int u1)]) hx hb dX1_lasts_41 hl (k := 2) rfl rfl (by decide) rfl (fun ls hl => ?_)
      refine lv_goto (tgt := 13) hx hb dX1_lasts_44 (by decide) ?_
      exact ih _ _ _ _ _ hS (lv_sub hl [1, 2, 0] rfl) h
set_option maxRecDepth 100000 in
set_option maxHeartbeats 4000000 in
theorem w_X1_lasts_L71 (Z : Cz D (Ew D A) A cX1_lasts 5 (some .int) RX1 p s m args meth c) {u1 : Int32} {u2 : Int32} (hu0 : S 0 = (10, 0)) {r : (Mem × Int32)} {k101 : Mem → Option (Mem × Int32)}
    (hk101 : ∀ (σ : Mem)  (H : Heap) (locs : List Loc) (ls : Array Slot), St D A ad S σ s.heap H locs → lv_has ls 5 [(0, .ref (ad 0)), (1, .int u1), (2, .int u2)] → k101 σ = some r → W p l e rm_X1_lasts s m args below meth c H locs 0 0 (MQ below (QG D A ad S (some (.int r.2)) r.1) args s 0 0 A) (F0 m 101 ls [])) :
    ∀ (n : Nat) (σ : Mem) (v4 : Int32) (H : Heap) (locs : List Loc) (ls : Array Slot), St D A ad S σ s.heap H locs → lv_has ls 5 [(0, .ref (ad 0)), (1, .int u1), (2, .int u2), (4, .int v4)] → f_X1_lasts_L71 k101 u1 u2 n σ v4 = some r → W p l e rm_X1_lasts s m args below meth c H locs 0 0 (MQ below (QG D A ad S (some (.int r.2)) r.1) args s 0 0 A) (F0 m 71 ls []) := by
  have hx := Z.1
  have hb := Z.2.1
  have hown := Z.2.2.2.2.2.1
  have hts := Z.2.2.2.2.2.2.1
  intro n
  induction n with
  | zero => intro σ v4 H locs ls hS hl h; cases h
  | succ n ih =>
    intro σ v4 H locs ls hS hl h
    unfold f_X1_lasts_L71 at h
    refine lv_iload hx hb dX1_lasts_71 (lv_at hl 3 rfl) ?_
    refine lv_bipush (v := (8 : Int32)) hx hb dX1_lasts_73 (by decide) ?_
    refine lv_icmp_ge (tgt := 101) hx hb dX1_lasts_75 (by decide) (fun c18 => ?_) (fun c18 => ?_)
    · have h := if_t h c18
      exact hk101 _ _ _ _ hS (lv_sub hl [0, 1, 2] rfl) h
    · have h := if_f h c18
      refine lv_aload_n hx hb dX1_lasts_78 rfl (lv_at hl 0 rfl) ?_
      refine h_getC (n := 110) (j := 110) (sh := (12, 0)) Z hS cls_0 hu0 (by decide) rfl rfl rfl fl_X1_98_0 dX1_lasts_79 (fun hc19 => ?_)
      refine h_getC (n := 5) (j := 115) (sh := (1, 8)) Z hS cls_2 hc19 (by decide) rfl rfl rfl fl_X1_330_2 dX1_lasts_82 (fun hc20 => ?_)
      refine lv_iload hx hb dX1_lasts_85 (lv_at hl 3 rfl) ?_
      refine lv_aload_n hx hb dX1_lasts_87 rfl (lv_at hl 0 rfl) ?_
      refine h_getC (n := 10) (j := 10) (sh := (1, 8)) Z hS cls_0 hu0 (by decide) rfl rfl rfl fl_X1_42_0 dX1_lasts_88 (fun hc21 => ?_)
      refine lv_iload hx hb dX1_lasts_91 (lv_at hl 3 rfl) ?_
      refine h_iald Z hS hc21 dX1_lasts_93 h (fun x22 h => ?_)
      refine h_iast Z hS hc20 dX1_lasts_94 h (fun σ23 H locs hS h => ?_)
      refine lv_iinc (v := (v4 + (1 : Int32))) (lv' := [(4, .int (v4 + (1 : Int32))), (0, .ref (ad 0)), (1, .int u1), (2, .int u2)]) hx hb dX1_lasts_95 hl (k := 3) rfl rfl (by decide) rfl (fun ls hl => ?_)
      refine lv_goto (tgt := 71) hx hb dX1_lasts_98 (by decide) ?_
      exact ih _ _ _ _ _ hS (lv_sub hl [1, 2, 3, 0] rfl) h
set_option maxRecDepth 100000 in
set_option maxHeartbeats 4000000 in
theorem w_X1_lasts_L60 (Z : Cz D (Ew D A) A cX1_lasts 5 (some .int) RX1 p s m args meth c) {u1 : Int32} (hu0 : S 0 = (10, 0)) {r : (Mem × Int32)} {k155 : Mem → Int32 → Option (Mem × Int32)} {k163 : Mem → Option (Mem × Int32)}
    (hk155 : ∀ (σ : Mem) (w2 : Int32) (H : Heap) (locs : List Loc) (ls : Array Slot), St D A ad S σ s.heap H locs → lv_has ls 5 [(2, .int w2)] → k155 σ w2 = some r → W p l e rm_X1_lasts s m args below meth c H locs 0 0 (MQ below (QG D A ad S (some (.int r.2)) r.1) args s 0 0 A) (F0 m 155 ls []))
    (hk163 : ∀ (σ : Mem)  (H : Heap) (locs : List Loc) (ls : Array Slot), St D A ad S σ s.heap H locs → lv_has ls 5 [] → k163 σ = some r → W p l e rm_X1_lasts s m args below meth c H locs 0 0 (MQ below (QG D A ad S (some (.int r.2)) r.1) args s 0 0 A) (F0 m 163 ls [])) :
    ∀ (n : Nat) (σ : Mem) (v2 : Int32) (H : Heap) (locs : List Loc) (ls : Array Slot), St D A ad S σ s.heap H locs → lv_has ls 5 [(0, .ref (ad 0)), (1, .int u1), (2, .int v2)] → f_X1_lasts_L60 k155 k163 u1 n σ v2 = some r → W p l e rm_X1_lasts s m args below meth c H locs 0 0 (MQ below (QG D A ad S (some (.int r.2)) r.1) args s 0 0 A) (F0 m 60 ls []) := by
  have hx := Z.1
  have hb := Z.2.1
  have hown := Z.2.2.2.2.2.1
  have hts := Z.2.2.2.2.2.2.1
  intro n
  induction n with
  | zero => intro σ v2 H locs ls hS hl h; cases h
  | succ n ih =>
    intro σ v2 H locs ls hS hl h
    unfold f_X1_lasts_L60 at h
    refine lv_iload_n hx hb dX1_lasts_60 rfl (lv_at hl 2 rfl) ?_
    refine lv_bipush (v := (100 : Int32)) hx hb dX1_lasts_61 (by decide) ?_
    refine lv_icmp_ge (tgt := 163) hx hb dX1_lasts_63 (by decide) (fun c17 => ?_) (fun c17 => ?_)
    · have h := if_t h c17
      exact hk163 _ _ _ _ hS (lv_sub hl [] rfl) h
    · have h := if_f h c17
      refine lv_iconst (v := (0 : Int32)) hx hb dX1_lasts_66 (by decide) ?_
      refine lv_istore_n (lv' := [(3, .int (0 : Int32)), (0, .ref (ad 0)), (1, .int u1), (2, .int v2)]) hx hb dX1_lasts_67 rfl hl (by decide) rfl (fun ls hl => ?_)
      refine lv_iconst (v := (0 : Int32)) hx hb dX1_lasts_68 (by decide) ?_
      refine lv_istore (lv' := [(4, .int (0 : Int32)), (3, .int (0 : Int32)), (0, .ref (ad 0)), (1, .int u1), (2, .int v2)]) hx hb dX1_lasts_69 hl (by decide) rfl (fun ls hl => ?_)
      refine w_X1_lasts_L71 Z hu0 (fun σ24 H locs ls hS hl h => ?_) FU _ _ _ _ _ hS (lv_sub hl [2, 3, 4, 0] rfl) h
      refine lv_aload_n hx hb dX1_lasts_101 rfl (lv_at hl 0 rfl) ?_
      refine h_getC (n := 110) (j := 110) (sh := (12, 0)) Z hS cls_0 hu0 (by decide) rfl rfl rfl fl_X1_98_0 dX1_lasts_102 (fun hc25 => ?_)
      refine lv_aload_n hx hb dX1_lasts_105 rfl (lv_at hl 0 rfl) ?_
      refine h_getI Z hS cls_0 hu0 (by decide) rfl fl_X1_294_0 dX1_lasts_106 h (fun x26 h => ?_)
      refine h_ci hS h (fun z hz => h_rV (rest := []) Z hS hc25 rfl v_X1_225 (w_X3_pushWith hc25 hz) rfl rfl ⟨by decide, by decide⟩ rfl hl.1 rfl (Nat.le_of_ble_eq_true rfl) (Nat.zero_le _) (Nat.zero_le _) dX1_lasts_109) (fun x27 H locs hS h => ?_)
      refine lv_iconst (v := (-1 : Int32)) hx hb dX1_lasts_112 (by decide) ?_
      obtain ⟨σ29, x30, hp31, h⟩ := bnd2_el h
      have K31 : ∀ (H : Heap) (locs : List Loc) (ls : Array Slot), St D A ad S σ29 s.heap H locs → lv_has ls 5 [(0, .ref (ad 0)), (1, .int u1), (2, .int v2), (3, .int x30)] → W p l e rm_X1_lasts s m args below meth c H locs 0 0 (MQ below (QG D A ad S (some (.int r.2)) r.1) args s 0 0 A) (F0 m 150 ls []) := by
        intro H locs ls hS hl
        refine lv_iload_n hx hb dX1_lasts_150 rfl (lv_at hl 3 rfl) ?_
        refine lv_iload_n hx hb dX1_lasts_151 rfl (lv_at hl 1 rfl) ?_
        refine lv_icmp_le (tgt := 157) hx hb dX1_lasts_152 (by decide) (fun c32 => ?_) (fun c32 => ?_)
        · have h := if_t h c32
          refine lv_iinc (v := (v2 + (1 : Int32))) (lv' := [(2, .int (v2 + (1 : Int32))), (0, .ref (ad 0)), (1, .int u1), (3, .int x30)]) hx hb dX1_lasts_157 hl (k := 2) rfl rfl (by decide) rfl (fun ls hl => ?_)
          refine lv_goto (tgt := 60) hx hb dX1_lasts_160 (by decide) ?_
          exact ih _ _ _ _ _ hS (lv_sub hl [1, 2, 0] rfl) h
        · have h := if_f h c32
          exact hk155 _ _ _ _ _ hS (lv_sub hl [2] rfl) h
      clear h
      have h := hp31
      clear hp31
      refine lv_icmp_ne (tgt := 127) hx hb dX1_lasts_113 (by decide) (fun c28 => ?_) (fun c28 => ?_)
      · have h := if_f h c28
        refine lv_aload_n hx hb dX1_lasts_127 rfl (lv_at hl 0 rfl) ?_
        refine h_getC (n := 110) (j := 110) (sh := (12, 0)) Z hS cls_0 hu0 (by decide) rfl rfl rfl fl_X1_98_0 dX1_lasts_128 (fun hc35 => ?_)
        refine lv_aload_n hx hb dX1_lasts_131 rfl (lv_at hl 0 rfl) ?_
        refine h_getC (n := 100) (j := 100) (sh := (11, 0)) Z hS cls_0 hu0 (by decide) rfl rfl rfl fl_X1_18_0 dX1_lasts_132 (fun hc36 => ?_)
        refine lv_aload_n hx hb dX1_lasts_135 rfl (lv_at hl 0 rfl) ?_
        refine h_getC (n := 11) (j := 11) (sh := (1, 8)) Z hS cls_0 hu0 (by decide) rfl rfl rfl fl_X1_45_0 dX1_lasts_136 (fun hc37 => ?_)
        refine h_cm hS h (fun z hz => h_rV (rest := []) Z hS hc35 rfl v_X1_341 (w_X3_pass hc35 hc36 hc37 hz) rfl rfl ⟨by decide, by decide⟩ rfl hl.1 rfl (Nat.le_of_ble_eq_true rfl) (Nat.zero_le _) (Nat.zero_le _) dX1_lasts_139) (fun σ38 H locs hS h => ?_)
        refine lv_aload_n hx hb dX1_lasts_142 rfl (lv_at hl 0 rfl) ?_
        refine h_getC (n := 110) (j := 110) (sh := (12, 0)) Z hS cls_0 hu0 (by decide) rfl rfl rfl fl_X1_98_0 dX1_lasts_143 (fun hc39 => ?_)
        refine h_getI Z hS cls_2 hc39 (by decide) rfl fl_X1_222_2 dX1_lasts_146 h (fun x40 h => ?_)
        refine lv_istore_n (lv' := [(3, .int x40), (0, .ref (ad 0)), (1, .int u1), (2, .int v2)]) hx hb dX1_lasts_149 rfl hl (by decide) rfl (fun ls hl => ?_)
        cases h
        exact K31 _ _ _ hS (lv_sub hl [1, 2, 3, 0] rfl)
      · have h := if_t h c28
        refine lv_aload_n hx hb dX1_lasts_116 rfl (lv_at hl 0 rfl) ?_
        refine h_getC (n := 110) (j := 110) (sh := (12, 0)) Z hS cls_0 hu0 (by decide) rfl rfl rfl fl_X1_98_0 dX1_lasts_117 (fun hc33 => ?_)
        refine h_ci hS h (fun z hz => h_rV (rest := []) Z hS hc33 rfl v_X1_345 (w_X3_comes hc33 hz) rfl rfl ⟨by decide, by decide⟩ rfl hl.1 rfl (Nat.le_of_ble_eq_true rfl) (Nat.zero_le _) (Nat.zero_le _) dX1_lasts_120) (fun x34 H locs hS h => ?_)
        refine lv_istore_n (lv' := [(3, .int x34), (0, .ref (ad 0)), (1, .int u1), (2, .int v2)]) hx hb dX1_lasts_123 rfl hl (by decide) rfl (fun ls hl => ?_)
        refine lv_goto (tgt := 150) hx hb dX1_lasts_124 (by decide) ?_
        cases h
        exact K31 _ _ _ hS (lv_sub hl [1, 2, 3, 0] rfl)
set_option maxRecDepth 100000 in
set_option maxHeartbeats 4000000 in
theorem w_X1_lasts {a1 : Int32} (hi0 : S 0 = (10, 0)) {r : (Mem × Int32)} (h : f_X1_lasts σ a1 = some r) : Met l yX1_lasts (ws_ yX1_lasts cX1_lasts 5 (some .int)) rm_X1_lasts (va_Pc [.ref (ad 0), .int a1] (PreG D (Ew D A) A ad S σ)) (QG D A ad S (some (.int r.2)) r.1) 0 0 A := by
  refine y_met (by decide) (Nat.le_of_ble_eq_true rfl) (fun p e s m below meth c ls Z hS hl => ?_)
  have hx := Z.1
  have hb := Z.2.1
  have hown := Z.2.2.2.2.2.1
  have hts := Z.2.2.2.2.2.2.1
  unfold f_X1_lasts at h
  refine lv_aload_n hx hb dX1_lasts_0 rfl (lv_at hl 0 rfl) ?_
  refine h_getC (n := 110) (j := 110) (sh := (12, 0)) Z hS cls_0 hi0 (by decide) rfl rfl rfl fl_X1_98_0 dX1_lasts_1 (fun hc1 => ?_)
  refine lv_aload_n hx hb dX1_lasts_4 rfl (lv_at hl 0 rfl) ?_
  refine h_getI Z hS cls_0 hi0 (by decide) rfl fl_X1_374_0 dX1_lasts_5 h (fun x2 h => ?_)
  refine h_putI Z hS cls_2 hc1 (by decide) rfl rfl rfl fl_X1_147_2 dX1_lasts_8 h (fun σ3 H locs hS h => ?_)
  refine lv_iconst (v := (0 : Int32)) hx hb dX1_lasts_11 (by decide) ?_
  refine lv_istore_n (lv' := [(2, .int (0 : Int32)), (0, .ref (ad 0)), (1, .int a1)]) hx hb dX1_lasts_12 rfl hl (by decide) rfl (fun ls hl => ?_)
  refine w_X1_lasts_L13 Z hi0 (fun σ13 H locs ls hS hl h => ?_) FU _ _ _ _ _ hS (lv_sub hl [1, 2, 0] rfl) h
  refine lv_aload_n hx hb dX1_lasts_47 rfl (lv_at hl 0 rfl) ?_
  refine h_getC (n := 110) (j := 110) (sh := (12, 0)) Z hS cls_0 hi0 (by decide) rfl rfl rfl fl_X1_98_0 dX1_lasts_48 (fun hc14 => ?_)
  refine lv_aload_n hx hb dX1_lasts_51 rfl (lv_at hl 0 rfl) ?_
  refine h_getC (n := 11) (j := 11) (sh := (1, 8)) Z hS cls_0 hi0 (by decide) rfl rfl rfl fl_X1_45_0 dX1_lasts_52 (fun hc15 => ?_)
  refine h_cm hS h (fun z hz => h_rV (rest := []) Z hS hc14 rfl v_X1_323 (w_X3_change hc14 hc15 hz) rfl rfl ⟨by decide, by decide⟩ rfl hl.1 rfl (Nat.le_of_ble_eq_true rfl) (Nat.zero_le _) (Nat.zero_le _) dX1_lasts_55) (fun σ16 H locs hS h => ?_)
  refine lv_iconst (v := (0 : Int32)) hx hb dX1_lasts_58 (by decide) ?_
  refine lv_istore_n (lv' := [(2, .int (0 : Int32)), (0, .ref (ad 0)), (1, .int a1)]) hx hb dX1_lasts_59 rfl hl (by decide) rfl (fun ls hl => ?_)
  refine w_X1_lasts_L60 Z hi0 (fun σ41 x42 H locs ls hS hl h => ?_) (fun σ43 H locs ls hS hl h => ?_) FU _ _ _ _ _ hS (lv_sub hl [1, 2, 0] rfl) h
  · refine lv_iload_n hx hb dX1_lasts_155 rfl (lv_at hl 0 rfl) ?_
    exact h_iretm Z hS dX1_lasts_156 h
  · refine lv_bipush (v := (100 : Int32)) hx hb dX1_lasts_163 (by decide) ?_
    exact h_iretm Z hS dX1_lasts_165 h
end
theorem dX1_tryLayers_0 : decode cX1_tryLayers 0 = .ok (.iload_n 1, 1) := by decide +kernel
theorem dX1_tryLayers_1 : decode cX1_tryLayers 1 = .ok (.aload_n 0, 1) := by decide +kernel
theorem dX1_tryLayers_2 : decode cX1_tryLayers 2 = .ok (.getfield 374, 3) := by decide +kernel
theorem dX1_tryLayers_5 : decode cX1_tryLayers 5 = .ok (.if_icmp .ne 44, 3) := by decide +kernel
theorem dX1_tryLayers_8 : decode cX1_tryLayers 8 = .ok (.aload_n 0, 1) := by decide +kernel
theorem dX1_tryLayers_9 : decode cX1_tryLayers 9 = .ok (.iload_n 3, 1) := by decide +kernel
theorem dX1_tryLayers_10 : decode cX1_tryLayers 10 = .ok (.invokevirtual 377, 3) := by decide +kernel
theorem dX1_tryLayers_13 : decode cX1_tryLayers 13 = .ok (.istore 4, 2) := by decide +kernel
theorem dX1_tryLayers_15 : decode cX1_tryLayers 15 = .ok (.iload 4, 2) := by decide +kernel
theorem dX1_tryLayers_17 : decode cX1_tryLayers 17 = .ok (.aload_n 0, 1) := by decide +kernel
theorem dX1_tryLayers_18 : decode cX1_tryLayers 18 = .ok (.getfield 380, 3) := by decide +kernel
theorem dX1_tryLayers_21 : decode cX1_tryLayers 21 = .ok (.if_icmp .gt 4, 3) := by decide +kernel
theorem dX1_tryLayers_24 : decode cX1_tryLayers 24 = .ok (.return_, 1) := by decide +kernel
theorem dX1_tryLayers_25 : decode cX1_tryLayers 25 = .ok (.aload_n 0, 1) := by decide +kernel
theorem dX1_tryLayers_26 : decode cX1_tryLayers 26 = .ok (.iload 4, 2) := by decide +kernel
theorem dX1_tryLayers_28 : decode cX1_tryLayers 28 = .ok (.putfield 380, 3) := by decide +kernel
theorem dX1_tryLayers_31 : decode cX1_tryLayers 31 = .ok (.aload_n 0, 1) := by decide +kernel
theorem dX1_tryLayers_32 : decode cX1_tryLayers 32 = .ok (.getfield 85, 3) := by decide +kernel
theorem dX1_tryLayers_35 : decode cX1_tryLayers 35 = .ok (.iconst 0, 1) := by decide +kernel
theorem dX1_tryLayers_36 : decode cX1_tryLayers 36 = .ok (.aload_n 0, 1) := by decide +kernel
theorem dX1_tryLayers_37 : decode cX1_tryLayers 37 = .ok (.getfield 88, 3) := by decide +kernel
theorem dX1_tryLayers_40 : decode cX1_tryLayers 40 = .ok (.iconst 0, 1) := by decide +kernel
theorem dX1_tryLayers_41 : decode cX1_tryLayers 41 = .ok (.aload_n 0, 1) := by decide +kernel
theorem dX1_tryLayers_42 : decode cX1_tryLayers 42 = .ok (.getfield 374, 3) := by decide +kernel
theorem dX1_tryLayers_45 : decode cX1_tryLayers 45 = .ok (.invokestatic 383, 3) := by decide +kernel
theorem dX1_tryLayers_48 : decode cX1_tryLayers 48 = .ok (.return_, 1) := by decide +kernel
theorem dX1_tryLayers_49 : decode cX1_tryLayers 49 = .ok (.iconst 0, 1) := by decide +kernel
theorem dX1_tryLayers_50 : decode cX1_tryLayers 50 = .ok (.istore 4, 2) := by decide +kernel
theorem dX1_tryLayers_52 : decode cX1_tryLayers 52 = .ok (.iload 4, 2) := by decide +kernel
theorem dX1_tryLayers_54 : decode cX1_tryLayers 54 = .ok (.aload_n 0, 1) := by decide +kernel
theorem dX1_tryLayers_55 : decode cX1_tryLayers 55 = .ok (.getfield 374, 3) := by decide +kernel
theorem dX1_tryLayers_58 : decode cX1_tryLayers 58 = .ok (.if_icmp .ge 44, 3) := by decide +kernel
theorem dX1_tryLayers_61 : decode cX1_tryLayers 61 = .ok (.iload_n 2, 1) := by decide +kernel
theorem dX1_tryLayers_62 : decode cX1_tryLayers 62 = .ok (.iload 4, 2) := by decide +kernel
theorem dX1_tryLayers_64 : decode cX1_tryLayers 64 = .ok (.ishr, 1) := by decide +kernel
theorem dX1_tryLayers_65 : decode cX1_tryLayers 65 = .ok (.iconst 1, 1) := by decide +kernel
theorem dX1_tryLayers_66 : decode cX1_tryLayers 66 = .ok (.iand, 1) := by decide +kernel
theorem dX1_tryLayers_67 : decode cX1_tryLayers 67 = .ok (.iconst 1, 1) := by decide +kernel
theorem dX1_tryLayers_68 : decode cX1_tryLayers 68 = .ok (.if_icmp .ne 6, 3) := by decide +kernel
theorem dX1_tryLayers_71 : decode cX1_tryLayers 71 = .ok (.goto 25, 3) := by decide +kernel
theorem dX1_tryLayers_74 : decode cX1_tryLayers 74 = .ok (.aload_n 0, 1) := by decide +kernel
theorem dX1_tryLayers_75 : decode cX1_tryLayers 75 = .ok (.getfield 85, 3) := by decide +kernel
theorem dX1_tryLayers_78 : decode cX1_tryLayers 78 = .ok (.iload_n 1, 1) := by decide +kernel
theorem dX1_tryLayers_79 : decode cX1_tryLayers 79 = .ok (.iload 4, 2) := by decide +kernel
theorem dX1_tryLayers_81 : decode cX1_tryLayers 81 = .ok (.iastore, 1) := by decide +kernel
theorem dX1_tryLayers_82 : decode cX1_tryLayers 82 = .ok (.aload_n 0, 1) := by decide +kernel
theorem dX1_tryLayers_83 : decode cX1_tryLayers 83 = .ok (.iload_n 1, 1) := by decide +kernel
theorem dX1_tryLayers_84 : decode cX1_tryLayers 84 = .ok (.iconst 1, 1) := by decide +kernel
theorem dX1_tryLayers_85 : decode cX1_tryLayers 85 = .ok (.iadd, 1) := by decide +kernel
theorem dX1_tryLayers_86 : decode cX1_tryLayers 86 = .ok (.iload_n 2, 1) := by decide +kernel
theorem dX1_tryLayers_87 : decode cX1_tryLayers 87 = .ok (.iconst 1, 1) := by decide +kernel
theorem dX1_tryLayers_88 : decode cX1_tryLayers 88 = .ok (.iload 4, 2) := by decide +kernel
theorem dX1_tryLayers_90 : decode cX1_tryLayers 90 = .ok (.ishl, 1) := by decide +kernel
theorem dX1_tryLayers_91 : decode cX1_tryLayers 91 = .ok (.ior, 1) := by decide +kernel
theorem dX1_tryLayers_92 : decode cX1_tryLayers 92 = .ok (.iload_n 3, 1) := by decide +kernel
theorem dX1_tryLayers_93 : decode cX1_tryLayers 93 = .ok (.invokevirtual 389, 3) := by decide +kernel
theorem dX1_tryLayers_96 : decode cX1_tryLayers 96 = .ok (.iinc 4 1, 3) := by decide +kernel
theorem dX1_tryLayers_99 : decode cX1_tryLayers 99 = .ok (.goto (-47), 3) := by decide +kernel
theorem dX1_tryLayers_102 : decode cX1_tryLayers 102 = .ok (.return_, 1) := by decide +kernel
abbrev rm_X1_tryLayers_b (qf ql : Nat) : Room := k2_rm (qf + 7) (ql + 156)
section
variable {p : Program} {l : Launch} {e : Env} {s : State} {m : MethodId} {args : Array Value} {below : List Frame} {meth : Method} {c : Code} {D : gD} {A : Nat → Prop} {ad : Nat → Nat} {S : Nat → Nat × Nat} {σ : Mem}
set_option maxRecDepth 100000 in
set_option maxHeartbeats 4000000 in
theorem w_X1_tryLayers_b_L52 {rec : Mem → Int32 → Int32 → Int32 → Option Mem} {qf ql : Nat} (hrec : ∀ (σ : Mem) (a1 : Int32) (a2 : Int32) (a3 : Int32) (r : Mem), rec σ a1 a2 a3 = some r → Met l yX1_tryLayers (ws_ yX1_tryLayers cX1_tryLayers 5 none) (k2_rm qf ql) (va_Pc [.ref (ad 0), .int a1, .int a2, .int a3] (PreG D (Ew D A) A ad S σ)) (QG D A ad S none r) 0 0 A) (Z : Cz D (Ew D A) A cX1_tryLayers 5 none RX1 p s m args meth c) {u1 : Int32} {u2 : Int32} {u3 : Int32} (hu0 : S 0 = (10, 0)) {r : Mem} {k102 : Mem → Option Mem}
    (hk102 : ∀ (σ : Mem)  (H : Heap) (locs : List Loc) (ls : Array Slot), St D A ad S σ s.heap H locs → lv_has ls 5 [] → k102 σ = some r → W p l e (rm_X1_tryLayers_b qf ql) s m args below meth c H locs 0 0 (MQ below (QG D A ad S none r) args s 0 0 A) (F0 m 102 ls [])) :
    ∀ (n : Nat) (σ : Mem) (v4 : Int32) (H : Heap) (locs : List Loc) (ls : Array Slot), St D A ad S σ s.heap H locs → lv_has ls 5 [(0, .ref (ad 0)), (1, .int u1), (2, .int u2), (3, .int u3), (4, .int v4)] → f_X1_tryLayers_b_L52 rec k102 u1 u2 u3 n σ v4 = some r → W p l e (rm_X1_tryLayers_b qf ql) s m args below meth c H locs 0 0 (MQ below (QG D A ad S none r) args s 0 0 A) (F0 m 52 ls []) := by
  have hx := Z.1
  have hb := Z.2.1
  have hown := Z.2.2.2.2.2.1
  have hts := Z.2.2.2.2.2.2.1
  intro n
  induction n with
  | zero => intro σ v4 H locs ls hS hl h; cases h
  | succ n ih =>
    intro σ v4 H locs ls hS hl h
    unfold f_X1_tryLayers_b_L52 at h
    refine lv_iload hx hb dX1_tryLayers_52 (lv_at hl 4 rfl) ?_
    refine lv_aload_n hx hb dX1_tryLayers_54 rfl (lv_at hl 0 rfl) ?_
    refine h_getI Z hS cls_0 hu0 (by decide) rfl fl_X1_374_0 dX1_tryLayers_55 h (fun x12 h => ?_)
    refine lv_icmp_ge (tgt := 102) hx hb dX1_tryLayers_58 (by decide) (fun c13 => ?_) (fun c13 => ?_)
    · have h := if_t h c13
      exact hk102 _ _ _ _ hS (lv_sub hl [] rfl) h
    · have h := if_f h c13
      refine lv_iload_n hx hb dX1_tryLayers_61 rfl (lv_at hl 2 rfl) ?_
      refine lv_iload hx hb dX1_tryLayers_62 (lv_at hl 4 rfl) ?_
      refine lv_ishr hx hb dX1_tryLayers_64 ?_
      refine lv_iconst (v := (1 : Int32)) hx hb dX1_tryLayers_65 (by decide) ?_
      refine lv_iand hx hb dX1_tryLayers_66 ?_
      refine lv_iconst (v := (1 : Int32)) hx hb dX1_tryLayers_67 (by decide) ?_
      refine lv_icmp_ne (tgt := 74) hx hb dX1_tryLayers_68 (by decide) (fun c14 => ?_) (fun c14 => ?_)
      · have h := if_f h c14
        refine lv_aload_n hx hb dX1_tryLayers_74 rfl (lv_at hl 0 rfl) ?_
        refine h_getC (n := 25) (j := 25) (sh := (1, 6)) Z hS cls_0 hu0 (by decide) rfl rfl rfl fl_X1_85_0 dX1_tryLayers_75 (fun hc15 => ?_)
        refine lv_iload_n hx hb dX1_tryLayers_78 rfl (lv_at hl 1 rfl) ?_
        refine lv_iload hx hb dX1_tryLayers_79 (lv_at hl 4 rfl) ?_
        refine h_iast Z hS hc15 dX1_tryLayers_81 h (fun σ16 H locs hS h => ?_)
        refine lv_aload_n hx hb dX1_tryLayers_82 rfl (lv_at hl 0 rfl) ?_
        refine lv_iload_n hx hb dX1_tryLayers_83 rfl (lv_at hl 1 rfl) ?_
        refine lv_iconst (v := (1 : Int32)) hx hb dX1_tryLayers_84 (by decide) ?_
        refine lv_iadd hx hb dX1_tryLayers_85 ?_
        refine lv_iload_n hx hb dX1_tryLayers_86 rfl (lv_at hl 2 rfl) ?_
        refine lv_iconst (v := (1 : Int32)) hx hb dX1_tryLayers_87 (by decide) ?_
        refine lv_iload hx hb dX1_tryLayers_88 (lv_at hl 4 rfl) ?_
        refine lv_ishl hx hb dX1_tryLayers_90 ?_
        refine lv_ior hx hb dX1_tryLayers_91 ?_
        refine lv_iload_n hx hb dX1_tryLayers_92 rfl (lv_at hl 3 rfl) ?_
        refine h_cm hS h (fun z hz => h_rV (rest := []) Z hS hu0 rfl v_X1_389 (hrec _ _ _ _ _ hz) rfl rfl ⟨by show qf + 0 + 1 ≤ qf + 7; omega, by show 8 + (5 + 11) + (ql + 0) ≤ ql + 156; omega⟩ rfl hl.1 rfl (Nat.le_of_ble_eq_true rfl) (Nat.zero_le _) (Nat.zero_le _) dX1_tryLayers_93) (fun σ17 H locs hS h => ?_)
        refine lv_iinc (v := (v4 + (1 : Int32))) (lv' := [(4, .int (v4 + (1 : Int32))), (0, .ref (ad 0)), (1, .int u1), (2, .int u2), (3, .int u3)]) hx hb dX1_tryLayers_96 hl (k := 4) rfl rfl (by decide) rfl (fun ls hl => ?_)
        refine lv_goto (tgt := 52) hx hb dX1_tryLayers_99 (by decide) ?_
        exact ih _ _ _ _ _ hS (lv_sub hl [1, 2, 3, 4, 0] rfl) h
      · have h := if_t h c14
        refine lv_goto (tgt := 96) hx hb dX1_tryLayers_71 (by decide) ?_
        refine lv_iinc (v := (v4 + (1 : Int32))) (lv' := [(4, .int (v4 + (1 : Int32))), (0, .ref (ad 0)), (1, .int u1), (2, .int u2), (3, .int u3)]) hx hb dX1_tryLayers_96 hl (k := 4) rfl rfl (by decide) rfl (fun ls hl => ?_)
        refine lv_goto (tgt := 52) hx hb dX1_tryLayers_99 (by decide) ?_
        exact ih _ _ _ _ _ hS (lv_sub hl [1, 2, 3, 4, 0] rfl) h
set_option maxRecDepth 100000 in
set_option maxHeartbeats 4000000 in
theorem w_X1_tryLayers_b {rec : Mem → Int32 → Int32 → Int32 → Option Mem} {qf ql : Nat} (hrec : ∀ (σ : Mem) (a1 : Int32) (a2 : Int32) (a3 : Int32) (r : Mem), rec σ a1 a2 a3 = some r → Met l yX1_tryLayers (ws_ yX1_tryLayers cX1_tryLayers 5 none) (k2_rm qf ql) (va_Pc [.ref (ad 0), .int a1, .int a2, .int a3] (PreG D (Ew D A) A ad S σ)) (QG D A ad S none r) 0 0 A) {a1 : Int32} {a2 : Int32} {a3 : Int32} (hi0 : S 0 = (10, 0)) {r : Mem} (h : f_X1_tryLayers_b rec σ a1 a2 a3 = some r) : Met l yX1_tryLayers (ws_ yX1_tryLayers cX1_tryLayers 5 none) (rm_X1_tryLayers_b qf ql) (va_Pc [.ref (ad 0), .int a1, .int a2, .int a3] (PreG D (Ew D A) A ad S σ)) (QG D A ad S none r) 0 0 A := by
  refine y_met (by decide) (Nat.le_of_ble_eq_true rfl) (fun p e s m below meth c ls Z hS hl => ?_)
  have hx := Z.1
  have hb := Z.2.1
  have hown := Z.2.2.2.2.2.1
  have hts := Z.2.2.2.2.2.2.1
  unfold f_X1_tryLayers_b at h
  refine lv_iload_n hx hb dX1_tryLayers_0 rfl (lv_at hl 1 rfl) ?_
  refine lv_aload_n hx hb dX1_tryLayers_1 rfl (lv_at hl 0 rfl) ?_
  refine h_getI Z hS cls_0 hi0 (by decide) rfl fl_X1_374_0 dX1_tryLayers_2 h (fun x1 h => ?_)
  refine lv_icmp_ne (tgt := 49) hx hb dX1_tryLayers_5 (by decide) (fun c2 => ?_) (fun c2 => ?_)
  · have h := if_f h c2
    refine lv_iconst (v := (0 : Int32)) hx hb dX1_tryLayers_49 (by decide) ?_
    refine lv_istore (lv' := [(4, .int (0 : Int32)), (0, .ref (ad 0)), (1, .int a1), (2, .int a2), (3, .int a3)]) hx hb dX1_tryLayers_50 hl (by decide) rfl (fun ls hl => ?_)
    refine w_X1_tryLayers_b_L52 hrec Z hi0 (fun σ18 H locs ls hS hl h => ?_) FU _ _ _ _ _ hS (lv_sub hl [1, 2, 3, 4, 0] rfl) h
    exact h_vret Z hS dX1_tryLayers_102 h
  · have h := if_t h c2
    refine lv_aload_n hx hb dX1_tryLayers_8 rfl (lv_at hl 0 rfl) ?_
    refine lv_iload_n hx hb dX1_tryLayers_9 rfl (lv_at hl 3 rfl) ?_
    refine h_cim hS h (fun z hz => h_rV (rest := []) Z hS hi0 rfl v_X1_377 (w_X1_lasts hi0 hz) rfl rfl ⟨by show 6 + 1 ≤ qf + 7; omega, by show 8 + (5 + 11) + (132) ≤ ql + 156; omega⟩ rfl hl.1 rfl (Nat.le_of_ble_eq_true rfl) (Nat.zero_le _) (Nat.zero_le _) dX1_tryLayers_10) (fun σ3 x4 H locs hS h => ?_)
    refine lv_istore (lv' := [(4, .int x4), (0, .ref (ad 0)), (1, .int a1), (2, .int a2), (3, .int a3)]) hx hb dX1_tryLayers_13 hl (by decide) rfl (fun ls hl => ?_)
    refine lv_iload hx hb dX1_tryLayers_15 (lv_at hl 0 rfl) ?_
    refine lv_aload_n hx hb dX1_tryLayers_17 rfl (lv_at hl 1 rfl) ?_
    refine h_getI Z hS cls_0 hi0 (by decide) rfl fl_X1_380_0 dX1_tryLayers_18 h (fun x5 h => ?_)
    refine lv_icmp_gt (tgt := 25) hx hb dX1_tryLayers_21 (by decide) (fun c6 => ?_) (fun c6 => ?_)
    · have h := if_t h c6
      refine lv_aload_n hx hb dX1_tryLayers_25 rfl (lv_at hl 1 rfl) ?_
      refine lv_iload hx hb dX1_tryLayers_26 (lv_at hl 0 rfl) ?_
      refine h_putI Z hS cls_0 hi0 (by decide) rfl rfl rfl fl_X1_380_0 dX1_tryLayers_28 h (fun σ7 H locs hS h => ?_)
      refine lv_aload_n hx hb dX1_tryLayers_31 rfl (lv_at hl 1 rfl) ?_
      refine h_getC (n := 25) (j := 25) (sh := (1, 6)) Z hS cls_0 hi0 (by decide) rfl rfl rfl fl_X1_85_0 dX1_tryLayers_32 (fun hc8 => ?_)
      refine lv_iconst (v := (0 : Int32)) hx hb dX1_tryLayers_35 (by decide) ?_
      refine lv_aload_n hx hb dX1_tryLayers_36 rfl (lv_at hl 1 rfl) ?_
      refine h_getC (n := 26) (j := 26) (sh := (1, 6)) Z hS cls_0 hi0 (by decide) rfl rfl rfl fl_X1_88_0 dX1_tryLayers_37 (fun hc9 => ?_)
      refine lv_iconst (v := (0 : Int32)) hx hb dX1_tryLayers_40 (by decide) ?_
      refine lv_aload_n hx hb dX1_tryLayers_41 rfl (lv_at hl 1 rfl) ?_
      refine h_getI Z hS cls_0 hi0 (by decide) rfl fl_X1_374_0 dX1_tryLayers_42 h (fun x10 h => ?_)
      refine h_copy Z hS hc8 hc9 q1078 q1080 q1079 q104 hl.1 (by show 1 ≤ qf + 7; omega) (by have q : nativeFrameWords "java/lang/System" "arraycopy" 5 + 11 ≤ 60 := (by decide); show 0 + _ ≤ ql + 156; omega) dX1_tryLayers_45 h (fun σ11 H locs hS h => ?_)
      exact h_vret Z hS dX1_tryLayers_48 h
    · have h := if_f h c6
      exact h_vret Z hS dX1_tryLayers_24 h
def rmr_X1_tryLayers : Nat → Nat × Nat
 | 0 => (0, 0)
 | d + 1 => ((rmr_X1_tryLayers d).1 + 7, (rmr_X1_tryLayers d).2 + 156)
theorem w_X1_tryLayers (hi0 : S 0 = (10, 0)) : ∀ (d : Nat) (σ : Mem) (a1 : Int32) (a2 : Int32) (a3 : Int32) (r : Mem), f_X1_tryLayers d σ a1 a2 a3 = some r → Met l yX1_tryLayers (ws_ yX1_tryLayers cX1_tryLayers 5 none) (k2_rm (rmr_X1_tryLayers d).1 (rmr_X1_tryLayers d).2) (va_Pc [.ref (ad 0), .int a1, .int a2, .int a3] (PreG D (Ew D A) A ad S σ)) (QG D A ad S none r) 0 0 A := by
  intro d
  induction d with
  | zero => intro σ a1 a2 a3 r h; cases h
  | succ d ih => intro σ a1 a2 a3 r h; exact w_X1_tryLayers_b (qf := (rmr_X1_tryLayers d).1) (ql := (rmr_X1_tryLayers d).2) ih hi0 h
end
theorem dX1_cost_0 : decode cX1_cost 0 = .ok (.iload_n 1, 1) := by decide +kernel
theorem dX1_cost_1 : decode cX1_cost 1 = .ok (.i2l, 1) := by decide +kernel
theorem dX1_cost_2 : decode cX1_cost 2 = .ok (.ldc2_w 365, 3) := by decide +kernel
theorem dX1_cost_5 : decode cX1_cost 5 = .ok (.ldc2_w 393, 3) := by decide +kernel
theorem dX1_cost_8 : decode cX1_cost 8 = .ok (.invokestatic 5, 3) := by decide +kernel
theorem dX1_cost_11 : decode cX1_cost 11 = .ok (.ifCond .eq 26, 3) := by decide +kernel
theorem dX1_cost_14 : decode cX1_cost 14 = .ok (.iload_n 2, 1) := by decide +kernel
theorem dX1_cost_15 : decode cX1_cost 15 = .ok (.i2l, 1) := by decide +kernel
theorem dX1_cost_16 : decode cX1_cost 16 = .ok (.lconst 0, 1) := by decide +kernel
theorem dX1_cost_17 : decode cX1_cost 17 = .ok (.iload_n 1, 1) := by decide +kernel
theorem dX1_cost_18 : decode cX1_cost 18 = .ok (.iconst (-1), 1) := by decide +kernel
theorem dX1_cost_19 : decode cX1_cost 19 = .ok (.if_icmp .ne 9, 3) := by decide +kernel
theorem dX1_cost_22 : decode cX1_cost 22 = .ok (.ldc2_w 395, 3) := by decide +kernel
theorem dX1_cost_25 : decode cX1_cost 25 = .ok (.goto 6, 3) := by decide +kernel
theorem dX1_cost_28 : decode cX1_cost 28 = .ok (.ldc2_w 138, 3) := by decide +kernel
theorem dX1_cost_31 : decode cX1_cost 31 = .ok (.invokestatic 5, 3) := by decide +kernel
theorem dX1_cost_34 : decode cX1_cost 34 = .ok (.ifCond .ne 5, 3) := by decide +kernel
theorem dX1_cost_37 : decode cX1_cost 37 = .ok (.iconst 0, 1) := by decide +kernel
theorem dX1_cost_38 : decode cX1_cost 38 = .ok (.ireturn, 1) := by decide +kernel
theorem dX1_cost_39 : decode cX1_cost 39 = .ok (.iload_n 1, 1) := by decide +kernel
theorem dX1_cost_40 : decode cX1_cost 40 = .ok (.iconst (-1), 1) := by decide +kernel
theorem dX1_cost_41 : decode cX1_cost 41 = .ok (.if_icmp .ne 11, 3) := by decide +kernel
theorem dX1_cost_44 : decode cX1_cost 44 = .ok (.aload_n 0, 1) := by decide +kernel
theorem dX1_cost_45 : decode cX1_cost 45 = .ok (.iload_n 2, 1) := by decide +kernel
theorem dX1_cost_46 : decode cX1_cost 46 = .ok (.putfield 397, 3) := by decide +kernel
theorem dX1_cost_49 : decode cX1_cost 49 = .ok (.goto 10, 3) := by decide +kernel
theorem dX1_cost_52 : decode cX1_cost 52 = .ok (.aload_n 0, 1) := by decide +kernel
theorem dX1_cost_53 : decode cX1_cost 53 = .ok (.getfield 102, 3) := by decide +kernel
theorem dX1_cost_56 : decode cX1_cost 56 = .ok (.iload_n 1, 1) := by decide +kernel
theorem dX1_cost_57 : decode cX1_cost 57 = .ok (.iload_n 2, 1) := by decide +kernel
theorem dX1_cost_58 : decode cX1_cost 58 = .ok (.iastore, 1) := by decide +kernel
theorem dX1_cost_59 : decode cX1_cost 59 = .ok (.iconst 1, 1) := by decide +kernel
theorem dX1_cost_60 : decode cX1_cost 60 = .ok (.ireturn, 1) := by decide +kernel
abbrev rm_X1_cost : Room := k2_rm 1 25
section
variable {p : Program} {l : Launch} {e : Env} {s : State} {m : MethodId} {args : Array Value} {below : List Frame} {meth : Method} {c : Code} {D : gD} {A : Nat → Prop} {ad : Nat → Nat} {S : Nat → Nat × Nat} {σ : Mem}
set_option maxRecDepth 100000 in
set_option maxHeartbeats 4000000 in
theorem w_X1_cost {a1 : Int32} {a2 : Int32} (hi0 : S 0 = (10, 0)) {r : (Mem × Int32)} (h : f_X1_cost σ a1 a2 = some r) : Met l yX1_cost (ws_ yX1_cost cX1_cost 3 (some .boolean)) rm_X1_cost (va_Pc [.ref (ad 0), .int a1, .int a2] (PreG D (Ew D A) A ad S σ)) (QG D A ad S (some (.int r.2)) r.1) 0 0 A := by
  refine y_met (by decide) (Nat.le_of_ble_eq_true rfl) (fun p e s m below meth c ls Z hS hl => ?_)
  have hx := Z.1
  have hb := Z.2.1
  have hown := Z.2.2.2.2.2.1
  have hts := Z.2.2.2.2.2.2.1
  unfold f_X1_cost at h
  refine lv_iload_n hx hb dX1_cost_0 rfl (lv_at hl 1 rfl) ?_
  refine lv_i2l hx hb dX1_cost_1 rfl ?_
  refine lv_ldc2 (v := (-1 : Int64)) hx hb hown (hts _ q1050) dX1_cost_2 ?_
  refine lv_ldc2 (v := (19 : Int64)) hx hb hown (hts _ q1085) dX1_cost_5 ?_
  refine h_ci hS h (fun z hz => h_rS (rest := []) Z hS v_X1_5 (w_X1_isIn hz) rfl rfl ⟨by decide, by decide⟩ rfl hl.1 rfl (Nat.le_of_ble_eq_true rfl) (Nat.zero_le _) (Nat.zero_le _) dX1_cost_8) (fun x1 H locs hS h => ?_)
  refine lv_if_eq (tgt := 37) hx hb dX1_cost_11 (by decide) (fun c2 => ?_) (fun c2 => ?_)
  · have h := if_t h c2
    refine lv_iconst (v := (0 : Int32)) hx hb dX1_cost_37 (by decide) ?_
    exact h_zretm Z hS dX1_cost_38 h
  · have h := if_f h c2
    refine lv_iload_n hx hb dX1_cost_14 rfl (lv_at hl 2 rfl) ?_
    refine lv_i2l hx hb dX1_cost_15 rfl ?_
    refine lv_lconst (v := (0 : Int64)) hx hb dX1_cost_16 (by decide) ?_
    refine lv_iload_n hx hb dX1_cost_17 rfl (lv_at hl 1 rfl) ?_
    refine lv_iconst (v := (-1 : Int32)) hx hb dX1_cost_18 (by decide) ?_
    obtain ⟨y4, hp5, h⟩ := bnd_el h
    have K5 : ∀ (H : Heap) (locs : List Loc) (ls : Array Slot), St D A ad S σ s.heap H locs → lv_has ls 3 [(0, .ref (ad 0)), (1, .int a1), (2, .int a2)] → W p l e rm_X1_cost s m ([.ref (ad 0), .int a1, .int a2] : List Value).toArray below meth c H locs 0 0 (MQ below (QG D A ad S (some (.int r.2)) r.1) ([.ref (ad 0), .int a1, .int a2] : List Value).toArray s 0 0 A) (F0 m 31 ls [.long y4, .long (0 : Int64), .long (a2).toInt64]) := by
      intro H locs ls hS hl
      refine h_ci hS h (fun z hz => h_rS (rest := []) Z hS v_X1_5 (w_X1_isIn hz) rfl rfl ⟨by decide, by decide⟩ rfl hl.1 rfl (Nat.le_of_ble_eq_true rfl) (Nat.zero_le _) (Nat.zero_le _) dX1_cost_31) (fun x6 H locs hS h => ?_)
      refine lv_if_ne (tgt := 39) hx hb dX1_cost_34 (by decide) (fun c7 => ?_) (fun c7 => ?_)
      · have h := if_f h c7
        refine lv_iload_n hx hb dX1_cost_39 rfl (lv_at hl 1 rfl) ?_
        refine lv_iconst (v := (-1 : Int32)) hx hb dX1_cost_40 (by decide) ?_
        refine lv_icmp_ne (tgt := 52) hx hb dX1_cost_41 (by decide) (fun c8 => ?_) (fun c8 => ?_)
        · have h := if_f h c8
          refine lv_aload_n hx hb dX1_cost_52 rfl (lv_at hl 0 rfl) ?_
          refine h_getC (n := 31) (j := 31) (sh := (1, 20)) Z hS cls_0 hi0 (by decide) rfl rfl rfl fl_X1_102_0 dX1_cost_53 (fun hc10 => ?_)
          refine lv_iload_n hx hb dX1_cost_56 rfl (lv_at hl 1 rfl) ?_
          refine lv_iload_n hx hb dX1_cost_57 rfl (lv_at hl 2 rfl) ?_
          refine h_iast Z hS hc10 dX1_cost_58 h (fun σ11 H locs hS h => ?_)
          refine lv_iconst (v := (1 : Int32)) hx hb dX1_cost_59 (by decide) ?_
          exact h_zretm Z hS dX1_cost_60 h
        · have h := if_t h c8
          refine lv_aload_n hx hb dX1_cost_44 rfl (lv_at hl 0 rfl) ?_
          refine lv_iload_n hx hb dX1_cost_45 rfl (lv_at hl 2 rfl) ?_
          refine h_putI Z hS cls_0 hi0 (by decide) rfl rfl rfl fl_X1_397_0 dX1_cost_46 h (fun σ9 H locs hS h => ?_)
          refine lv_goto (tgt := 59) hx hb dX1_cost_49 (by decide) ?_
          refine lv_iconst (v := (1 : Int32)) hx hb dX1_cost_59 (by decide) ?_
          exact h_zretm Z hS dX1_cost_60 h
      · have h := if_t h c7
        refine lv_iconst (v := (0 : Int32)) hx hb dX1_cost_37 (by decide) ?_
        exact h_zretm Z hS dX1_cost_38 h
    clear h
    have h := hp5
    clear hp5
    refine lv_icmp_ne (tgt := 28) hx hb dX1_cost_19 (by decide) (fun c3 => ?_) (fun c3 => ?_)
    · have h := if_f h c3
      refine lv_ldc2 (v := (1000 : Int64)) hx hb hown (hts _ q358) dX1_cost_28 ?_
      cases h
      exact K5 _ _ _ hS (lv_sub hl [0, 1, 2] rfl)
    · have h := if_t h c3
      refine lv_ldc2 (v := (10000 : Int64)) hx hb hown (hts _ q1086) dX1_cost_22 ?_
      refine lv_goto (tgt := 31) hx hb dX1_cost_25 (by decide) ?_
      cases h
      exact K5 _ _ _ hS (lv_sub hl [0, 1, 2] rfl)
end
theorem dX1_costOf_0 : decode cX1_costOf 0 = .ok (.aload_n 0, 1) := by decide +kernel
theorem dX1_costOf_1 : decode cX1_costOf 1 = .ok (.getfield 102, 3) := by decide +kernel
theorem dX1_costOf_4 : decode cX1_costOf 4 = .ok (.iload_n 1, 1) := by decide +kernel
theorem dX1_costOf_5 : decode cX1_costOf 5 = .ok (.bipush 19, 2) := by decide +kernel
theorem dX1_costOf_7 : decode cX1_costOf 7 = .ok (.invokestatic 318, 3) := by decide +kernel
theorem dX1_costOf_10 : decode cX1_costOf 10 = .ok (.iaload, 1) := by decide +kernel
theorem dX1_costOf_11 : decode cX1_costOf 11 = .ok (.ireturn, 1) := by decide +kernel
abbrev rm_X1_costOf : Room := k2_rm 1 14
section
variable {p : Program} {l : Launch} {e : Env} {s : State} {m : MethodId} {args : Array Value} {below : List Frame} {meth : Method} {c : Code} {D : gD} {A : Nat → Prop} {ad : Nat → Nat} {S : Nat → Nat × Nat} {σ : Mem}
set_option maxRecDepth 100000 in
set_option maxHeartbeats 4000000 in
theorem w_X1_costOf {a1 : Int32} (hi0 : S 0 = (10, 0)) {r : Int32} (h : f_X1_costOf σ a1 = some r) : Met l yX1_costOf (ws_ yX1_costOf cX1_costOf 2 (some .int)) rm_X1_costOf (va_Pc [.ref (ad 0), .int a1] (PreG D (Ew D A) A ad S σ)) (QG D A ad S (some (.int r)) σ) 0 0 A := by
  refine y_met (by decide) (Nat.le_of_ble_eq_true rfl) (fun p e s m below meth c ls Z hS hl => ?_)
  have hx := Z.1
  have hb := Z.2.1
  have hown := Z.2.2.2.2.2.1
  have hts := Z.2.2.2.2.2.2.1
  unfold f_X1_costOf at h
  refine lv_aload_n hx hb dX1_costOf_0 rfl (lv_at hl 0 rfl) ?_
  refine h_getC (n := 31) (j := 31) (sh := (1, 20)) Z hS cls_0 hi0 (by decide) rfl rfl rfl fl_X1_102_0 dX1_costOf_1 (fun hc1 => ?_)
  refine lv_iload_n hx hb dX1_costOf_4 rfl (lv_at hl 1 rfl) ?_
  refine lv_bipush (v := (19 : Int32)) hx hb dX1_costOf_5 (by decide) ?_
  refine y_imin hx hb (hl.1 ▸ Z.2.2.2.2.1) Z.2.2.2.2.2 q969 (by decide) (Nat.le_of_ble_eq_true rfl) (Nat.zero_le _) (Nat.zero_le _) dX1_costOf_7 ?_
  refine h_iald Z hS hc1 dX1_costOf_10 h (fun x2 h => ?_)
  exact h_iret Z hS dX1_costOf_11 h
end
theorem dX1_cheapAt_0 : decode cX1_cheapAt 0 = .ok (.aload_n 0, 1) := by decide +kernel
theorem dX1_cheapAt_1 : decode cX1_cheapAt 1 = .ok (.getfield 105, 3) := by decide +kernel
theorem dX1_cheapAt_4 : decode cX1_cheapAt 4 = .ok (.bipush 81, 2) := by decide +kernel
theorem dX1_cheapAt_6 : decode cX1_cheapAt 6 = .ok (.iload_n 1, 1) := by decide +kernel
theorem dX1_cheapAt_7 : decode cX1_cheapAt 7 = .ok (.imul, 1) := by decide +kernel
theorem dX1_cheapAt_8 : decode cX1_cheapAt 8 = .ok (.iload_n 2, 1) := by decide +kernel
theorem dX1_cheapAt_9 : decode cX1_cheapAt 9 = .ok (.iadd, 1) := by decide +kernel
theorem dX1_cheapAt_10 : decode cX1_cheapAt 10 = .ok (.iaload, 1) := by decide +kernel
theorem dX1_cheapAt_11 : decode cX1_cheapAt 11 = .ok (.ireturn, 1) := by decide +kernel
abbrev rm_X1_cheapAt : Room := k2_rm 0 0
section
variable {p : Program} {l : Launch} {e : Env} {s : State} {m : MethodId} {args : Array Value} {below : List Frame} {meth : Method} {c : Code} {D : gD} {A : Nat → Prop} {ad : Nat → Nat} {S : Nat → Nat × Nat} {σ : Mem}
set_option maxRecDepth 100000 in
set_option maxHeartbeats 4000000 in
theorem w_X1_cheapAt {a1 : Int32} {a2 : Int32} (hi0 : S 0 = (10, 0)) {r : Int32} (h : f_X1_cheapAt σ a1 a2 = some r) : Met l yX1_cheapAt (ws_ yX1_cheapAt cX1_cheapAt 3 (some .int)) rm_X1_cheapAt (va_Pc [.ref (ad 0), .int a1, .int a2] (PreG D (Ew D A) A ad S σ)) (QG D A ad S (some (.int r)) σ) 0 0 A := by
  refine y_met (by decide) (Nat.le_of_ble_eq_true rfl) (fun p e s m below meth c ls Z hS hl => ?_)
  have hx := Z.1
  have hb := Z.2.1
  have hown := Z.2.2.2.2.2.1
  have hts := Z.2.2.2.2.2.2.1
  unfold f_X1_cheapAt at h
  refine lv_aload_n hx hb dX1_cheapAt_0 rfl (lv_at hl 0 rfl) ?_
  refine h_getC (n := 32) (j := 32) (sh := (1, 4941)) Z hS cls_0 hi0 (by decide) rfl rfl rfl fl_X1_105_0 dX1_cheapAt_1 (fun hc1 => ?_)
  refine lv_bipush (v := (81 : Int32)) hx hb dX1_cheapAt_4 (by decide) ?_
  refine lv_iload_n hx hb dX1_cheapAt_6 rfl (lv_at hl 1 rfl) ?_
  refine lv_imul hx hb dX1_cheapAt_7 ?_
  refine lv_iload_n hx hb dX1_cheapAt_8 rfl (lv_at hl 2 rfl) ?_
  refine lv_iadd hx hb dX1_cheapAt_9 ?_
  refine h_iald Z hS hc1 dX1_cheapAt_10 h (fun x2 h => ?_)
  exact h_iret Z hS dX1_cheapAt_11 h
end
theorem dX1_stays_0 : decode cX1_stays 0 = .ok (.aload_n 0, 1) := by decide +kernel
theorem dX1_stays_1 : decode cX1_stays 1 = .ok (.iload_n 2, 1) := by decide +kernel
theorem dX1_stays_2 : decode cX1_stays 2 = .ok (.invokevirtual 400, 3) := by decide +kernel
theorem dX1_stays_5 : decode cX1_stays 5 = .ok (.aload_n 0, 1) := by decide +kernel
theorem dX1_stays_6 : decode cX1_stays 6 = .ok (.iload_n 1, 1) := by decide +kernel
theorem dX1_stays_7 : decode cX1_stays 7 = .ok (.iconst 1, 1) := by decide +kernel
theorem dX1_stays_8 : decode cX1_stays 8 = .ok (.iadd, 1) := by decide +kernel
theorem dX1_stays_9 : decode cX1_stays 9 = .ok (.iload_n 2, 1) := by decide +kernel
theorem dX1_stays_10 : decode cX1_stays 10 = .ok (.iconst 1, 1) := by decide +kernel
theorem dX1_stays_11 : decode cX1_stays 11 = .ok (.iadd, 1) := by decide +kernel
theorem dX1_stays_12 : decode cX1_stays 12 = .ok (.invokevirtual 403, 3) := by decide +kernel
theorem dX1_stays_15 : decode cX1_stays 15 = .ok (.iadd, 1) := by decide +kernel
theorem dX1_stays_16 : decode cX1_stays 16 = .ok (.ireturn, 1) := by decide +kernel
abbrev rm_X1_stays : Room := k2_rm 2 35
section
variable {p : Program} {l : Launch} {e : Env} {s : State} {m : MethodId} {args : Array Value} {below : List Frame} {meth : Method} {c : Code} {D : gD} {A : Nat → Prop} {ad : Nat → Nat} {S : Nat → Nat × Nat} {σ : Mem}
set_option maxRecDepth 100000 in
set_option maxHeartbeats 4000000 in
theorem w_X1_stays {a1 : Int32} {a2 : Int32} (hi0 : S 0 = (10, 0)) {r : Int32} (h : f_X1_stays σ a1 a2 = some r) : Met l yX1_stays (ws_ yX1_stays cX1_stays 3 (some .int)) rm_X1_stays (va_Pc [.ref (ad 0), .int a1, .int a2] (PreG D (Ew D A) A ad S σ)) (QG D A ad S (some (.int r)) σ) 0 0 A := by
  refine y_met (by decide) (Nat.le_of_ble_eq_true rfl) (fun p e s m below meth c ls Z hS hl => ?_)
  have hx := Z.1
  have hb := Z.2.1
  have hown := Z.2.2.2.2.2.1
  have hts := Z.2.2.2.2.2.2.1
  unfold f_X1_stays at h
  refine lv_aload_n hx hb dX1_stays_0 rfl (lv_at hl 0 rfl) ?_
  refine lv_iload_n hx hb dX1_stays_1 rfl (lv_at hl 2 rfl) ?_
  refine h_ci hS h (fun z hz => h_rV (rest := []) Z hS hi0 rfl v_X1_400 (w_X1_costOf hi0 hz) rfl rfl ⟨by decide, by decide⟩ rfl hl.1 rfl (Nat.le_of_ble_eq_true rfl) (Nat.zero_le _) (Nat.zero_le _) dX1_stays_2) (fun x1 H locs hS h => ?_)
  refine lv_aload_n hx hb dX1_stays_5 rfl (lv_at hl 0 rfl) ?_
  refine lv_iload_n hx hb dX1_stays_6 rfl (lv_at hl 1 rfl) ?_
  refine lv_iconst (v := (1 : Int32)) hx hb dX1_stays_7 (by decide) ?_
  refine lv_iadd hx hb dX1_stays_8 ?_
  refine lv_iload_n hx hb dX1_stays_9 rfl (lv_at hl 2 rfl) ?_
  refine lv_iconst (v := (1 : Int32)) hx hb dX1_stays_10 (by decide) ?_
  refine lv_iadd hx hb dX1_stays_11 ?_
  refine h_ci hS h (fun z hz => h_rV (rest := [.int x1]) Z hS hi0 rfl v_X1_403 (w_X1_cheapAt hi0 hz) rfl rfl ⟨by decide, by decide⟩ rfl hl.1 rfl (Nat.le_of_ble_eq_true rfl) (Nat.zero_le _) (Nat.zero_le _) dX1_stays_12) (fun x2 H locs hS h => ?_)
  refine lv_iadd hx hb dX1_stays_15 ?_
  exact h_iret Z hS dX1_stays_16 h
end
theorem dX1_changes_0 : decode cX1_changes 0 = .ok (.aload_n 0, 1) := by decide +kernel
theorem dX1_changes_1 : decode cX1_changes 1 = .ok (.getfield 397, 3) := by decide +kernel
theorem dX1_changes_4 : decode cX1_changes 4 = .ok (.aload_n 0, 1) := by decide +kernel
theorem dX1_changes_5 : decode cX1_changes 5 = .ok (.iconst 0, 1) := by decide +kernel
theorem dX1_changes_6 : decode cX1_changes 6 = .ok (.invokevirtual 400, 3) := by decide +kernel
theorem dX1_changes_9 : decode cX1_changes 9 = .ok (.iadd, 1) := by decide +kernel
theorem dX1_changes_10 : decode cX1_changes 10 = .ok (.aload_n 0, 1) := by decide +kernel
theorem dX1_changes_11 : decode cX1_changes 11 = .ok (.iload_n 1, 1) := by decide +kernel
theorem dX1_changes_12 : decode cX1_changes 12 = .ok (.iconst 1, 1) := by decide +kernel
theorem dX1_changes_13 : decode cX1_changes 13 = .ok (.iadd, 1) := by decide +kernel
theorem dX1_changes_14 : decode cX1_changes 14 = .ok (.iconst 1, 1) := by decide +kernel
theorem dX1_changes_15 : decode cX1_changes 15 = .ok (.invokevirtual 403, 3) := by decide +kernel
theorem dX1_changes_18 : decode cX1_changes 18 = .ok (.iadd, 1) := by decide +kernel
theorem dX1_changes_19 : decode cX1_changes 19 = .ok (.ireturn, 1) := by decide +kernel
abbrev rm_X1_changes : Room := k2_rm 2 35
section
variable {p : Program} {l : Launch} {e : Env} {s : State} {m : MethodId} {args : Array Value} {below : List Frame} {meth : Method} {c : Code} {D : gD} {A : Nat → Prop} {ad : Nat → Nat} {S : Nat → Nat × Nat} {σ : Mem}
set_option maxRecDepth 100000 in
set_option maxHeartbeats 4000000 in
theorem w_X1_changes {a1 : Int32} (hi0 : S 0 = (10, 0)) {r : Int32} (h : f_X1_changes σ a1 = some r) : Met l yX1_changes (ws_ yX1_changes cX1_changes 2 (some .int)) rm_X1_changes (va_Pc [.ref (ad 0), .int a1] (PreG D (Ew D A) A ad S σ)) (QG D A ad S (some (.int r)) σ) 0 0 A := by
  refine y_met (by decide) (Nat.le_of_ble_eq_true rfl) (fun p e s m below meth c ls Z hS hl => ?_)
  have hx := Z.1
  have hb := Z.2.1
  have hown := Z.2.2.2.2.2.1
  have hts := Z.2.2.2.2.2.2.1
  unfold f_X1_changes at h
  refine lv_aload_n hx hb dX1_changes_0 rfl (lv_at hl 0 rfl) ?_
  refine h_getI Z hS cls_0 hi0 (by decide) rfl fl_X1_397_0 dX1_changes_1 h (fun x1 h => ?_)
  refine lv_aload_n hx hb dX1_changes_4 rfl (lv_at hl 0 rfl) ?_
  refine lv_iconst (v := (0 : Int32)) hx hb dX1_changes_5 (by decide) ?_
  refine h_ci hS h (fun z hz => h_rV (rest := [.int x1]) Z hS hi0 rfl v_X1_400 (w_X1_costOf hi0 hz) rfl rfl ⟨by decide, by decide⟩ rfl hl.1 rfl (Nat.le_of_ble_eq_true rfl) (Nat.zero_le _) (Nat.zero_le _) dX1_changes_6) (fun x2 H locs hS h => ?_)
  refine lv_iadd hx hb dX1_changes_9 ?_
  refine lv_aload_n hx hb dX1_changes_10 rfl (lv_at hl 0 rfl) ?_
  refine lv_iload_n hx hb dX1_changes_11 rfl (lv_at hl 1 rfl) ?_
  refine lv_iconst (v := (1 : Int32)) hx hb dX1_changes_12 (by decide) ?_
  refine lv_iadd hx hb dX1_changes_13 ?_
  refine lv_iconst (v := (1 : Int32)) hx hb dX1_changes_14 (by decide) ?_
  refine h_ci hS h (fun z hz => h_rV (rest := [.int (x1 + x2)]) Z hS hi0 rfl v_X1_403 (w_X1_cheapAt hi0 hz) rfl rfl ⟨by decide, by decide⟩ rfl hl.1 rfl (Nat.le_of_ble_eq_true rfl) (Nat.zero_le _) (Nat.zero_le _) dX1_changes_15) (fun x3 H locs hS h => ?_)
  refine lv_iadd hx hb dX1_changes_18 ?_
  exact h_iret Z hS dX1_changes_19 h
end
theorem dX1_cheapest_0 : decode cX1_cheapest 0 = .ok (.iload_n 1, 1) := by decide +kernel
theorem dX1_cheapest_1 : decode cX1_cheapest 1 = .ok (.i2l, 1) := by decide +kernel
theorem dX1_cheapest_2 : decode cX1_cheapest 2 = .ok (.lconst 1, 1) := by decide +kernel
theorem dX1_cheapest_3 : decode cX1_cheapest 3 = .ok (.ldc2_w 359, 3) := by decide +kernel
theorem dX1_cheapest_6 : decode cX1_cheapest 6 = .ok (.invokestatic 5, 3) := by decide +kernel
theorem dX1_cheapest_9 : decode cX1_cheapest 9 = .ok (.ifCond .eq 25, 3) := by decide +kernel
theorem dX1_cheapest_12 : decode cX1_cheapest 12 = .ok (.iload_n 2, 1) := by decide +kernel
theorem dX1_cheapest_13 : decode cX1_cheapest 13 = .ok (.i2l, 1) := by decide +kernel
theorem dX1_cheapest_14 : decode cX1_cheapest 14 = .ok (.lconst 0, 1) := by decide +kernel
theorem dX1_cheapest_15 : decode cX1_cheapest 15 = .ok (.ldc2_w 393, 3) := by decide +kernel
theorem dX1_cheapest_18 : decode cX1_cheapest 18 = .ok (.invokestatic 5, 3) := by decide +kernel
theorem dX1_cheapest_21 : decode cX1_cheapest 21 = .ok (.ifCond .eq 13, 3) := by decide +kernel
theorem dX1_cheapest_24 : decode cX1_cheapest 24 = .ok (.iload_n 3, 1) := by decide +kernel
theorem dX1_cheapest_25 : decode cX1_cheapest 25 = .ok (.i2l, 1) := by decide +kernel
theorem dX1_cheapest_26 : decode cX1_cheapest 26 = .ok (.lconst 0, 1) := by decide +kernel
theorem dX1_cheapest_27 : decode cX1_cheapest 27 = .ok (.lconst 1, 1) := by decide +kernel
theorem dX1_cheapest_28 : decode cX1_cheapest 28 = .ok (.invokestatic 5, 3) := by decide +kernel
theorem dX1_cheapest_31 : decode cX1_cheapest 31 = .ok (.ifCond .ne 5, 3) := by decide +kernel
theorem dX1_cheapest_34 : decode cX1_cheapest 34 = .ok (.iconst (-1), 1) := by decide +kernel
theorem dX1_cheapest_35 : decode cX1_cheapest 35 = .ok (.ireturn, 1) := by decide +kernel
theorem dX1_cheapest_36 : decode cX1_cheapest 36 = .ok (.iconst 0, 1) := by decide +kernel
theorem dX1_cheapest_37 : decode cX1_cheapest 37 = .ok (.istore 4, 2) := by decide +kernel
theorem dX1_cheapest_39 : decode cX1_cheapest 39 = .ok (.iload 4, 2) := by decide +kernel
theorem dX1_cheapest_41 : decode cX1_cheapest 41 = .ok (.bipush 81, 2) := by decide +kernel
theorem dX1_cheapest_43 : decode cX1_cheapest 43 = .ok (.if_icmp .ge 22, 3) := by decide +kernel
theorem dX1_cheapest_46 : decode cX1_cheapest 46 = .ok (.aload_n 0, 1) := by decide +kernel
theorem dX1_cheapest_47 : decode cX1_cheapest 47 = .ok (.getfield 105, 3) := by decide +kernel
theorem dX1_cheapest_50 : decode cX1_cheapest 50 = .ok (.bipush 81, 2) := by decide +kernel
theorem dX1_cheapest_52 : decode cX1_cheapest 52 = .ok (.iload_n 1, 1) := by decide +kernel
theorem dX1_cheapest_53 : decode cX1_cheapest 53 = .ok (.imul, 1) := by decide +kernel
theorem dX1_cheapest_54 : decode cX1_cheapest 54 = .ok (.iload 4, 2) := by decide +kernel
theorem dX1_cheapest_56 : decode cX1_cheapest 56 = .ok (.iadd, 1) := by decide +kernel
theorem dX1_cheapest_57 : decode cX1_cheapest 57 = .ok (.iconst 0, 1) := by decide +kernel
theorem dX1_cheapest_58 : decode cX1_cheapest 58 = .ok (.iastore, 1) := by decide +kernel
theorem dX1_cheapest_59 : decode cX1_cheapest 59 = .ok (.iinc 4 1, 3) := by decide +kernel
theorem dX1_cheapest_62 : decode cX1_cheapest 62 = .ok (.goto (-23), 3) := by decide +kernel
theorem dX1_cheapest_65 : decode cX1_cheapest 65 = .ok (.iload_n 1, 1) := by decide +kernel
theorem dX1_cheapest_66 : decode cX1_cheapest 66 = .ok (.iconst 1, 1) := by decide +kernel
theorem dX1_cheapest_67 : decode cX1_cheapest 67 = .ok (.isub, 1) := by decide +kernel
theorem dX1_cheapest_68 : decode cX1_cheapest 68 = .ok (.istore 4, 2) := by decide +kernel
theorem dX1_cheapest_70 : decode cX1_cheapest 70 = .ok (.iload 4, 2) := by decide +kernel
theorem dX1_cheapest_72 : decode cX1_cheapest 72 = .ok (.ifCond .lt 60, 3) := by decide +kernel
theorem dX1_cheapest_75 : decode cX1_cheapest 75 = .ok (.iconst 0, 1) := by decide +kernel
theorem dX1_cheapest_76 : decode cX1_cheapest 76 = .ok (.istore 5, 2) := by decide +kernel
theorem dX1_cheapest_78 : decode cX1_cheapest 78 = .ok (.iload 5, 2) := by decide +kernel
theorem dX1_cheapest_80 : decode cX1_cheapest 80 = .ok (.bipush 20, 2) := by decide +kernel
theorem dX1_cheapest_82 : decode cX1_cheapest 82 = .ok (.iload 4, 2) := by decide +kernel
theorem dX1_cheapest_84 : decode cX1_cheapest 84 = .ok (.iadd, 1) := by decide +kernel
theorem dX1_cheapest_85 : decode cX1_cheapest 85 = .ok (.iconst 1, 1) := by decide +kernel
theorem dX1_cheapest_86 : decode cX1_cheapest 86 = .ok (.iadd, 1) := by decide +kernel
theorem dX1_cheapest_87 : decode cX1_cheapest 87 = .ok (.if_icmp .ge 39, 3) := by decide +kernel
theorem dX1_cheapest_90 : decode cX1_cheapest 90 = .ok (.aload_n 0, 1) := by decide +kernel
theorem dX1_cheapest_91 : decode cX1_cheapest 91 = .ok (.getfield 105, 3) := by decide +kernel
theorem dX1_cheapest_94 : decode cX1_cheapest 94 = .ok (.bipush 81, 2) := by decide +kernel
theorem dX1_cheapest_96 : decode cX1_cheapest 96 = .ok (.iload 4, 2) := by decide +kernel
theorem dX1_cheapest_98 : decode cX1_cheapest 98 = .ok (.imul, 1) := by decide +kernel
theorem dX1_cheapest_99 : decode cX1_cheapest 99 = .ok (.iload 5, 2) := by decide +kernel
theorem dX1_cheapest_101 : decode cX1_cheapest 101 = .ok (.iadd, 1) := by decide +kernel
theorem dX1_cheapest_102 : decode cX1_cheapest 102 = .ok (.aload_n 0, 1) := by decide +kernel
theorem dX1_cheapest_103 : decode cX1_cheapest 103 = .ok (.iload 4, 2) := by decide +kernel
theorem dX1_cheapest_105 : decode cX1_cheapest 105 = .ok (.iload 5, 2) := by decide +kernel
theorem dX1_cheapest_107 : decode cX1_cheapest 107 = .ok (.invokevirtual 406, 3) := by decide +kernel
theorem dX1_cheapest_110 : decode cX1_cheapest 110 = .ok (.aload_n 0, 1) := by decide +kernel
theorem dX1_cheapest_111 : decode cX1_cheapest 111 = .ok (.iload 4, 2) := by decide +kernel
theorem dX1_cheapest_113 : decode cX1_cheapest 113 = .ok (.invokevirtual 409, 3) := by decide +kernel
theorem dX1_cheapest_116 : decode cX1_cheapest 116 = .ok (.invokestatic 318, 3) := by decide +kernel
theorem dX1_cheapest_119 : decode cX1_cheapest 119 = .ok (.iastore, 1) := by decide +kernel
theorem dX1_cheapest_120 : decode cX1_cheapest 120 = .ok (.iinc 5 1, 3) := by decide +kernel
theorem dX1_cheapest_123 : decode cX1_cheapest 123 = .ok (.goto (-45), 3) := by decide +kernel
theorem dX1_cheapest_126 : decode cX1_cheapest 126 = .ok (.iinc 4 (-1), 3) := by decide +kernel
theorem dX1_cheapest_129 : decode cX1_cheapest 129 = .ok (.goto (-59), 3) := by decide +kernel
theorem dX1_cheapest_132 : decode cX1_cheapest 132 = .ok (.iload_n 3, 1) := by decide +kernel
theorem dX1_cheapest_133 : decode cX1_cheapest 133 = .ok (.ifCond .ne 10, 3) := by decide +kernel
theorem dX1_cheapest_136 : decode cX1_cheapest 136 = .ok (.aload_n 0, 1) := by decide +kernel
theorem dX1_cheapest_137 : decode cX1_cheapest 137 = .ok (.iconst 0, 1) := by decide +kernel
theorem dX1_cheapest_138 : decode cX1_cheapest 138 = .ok (.iload_n 2, 1) := by decide +kernel
theorem dX1_cheapest_139 : decode cX1_cheapest 139 = .ok (.invokevirtual 403, 3) := by decide +kernel
theorem dX1_cheapest_142 : decode cX1_cheapest 142 = .ok (.ireturn, 1) := by decide +kernel
theorem dX1_cheapest_143 : decode cX1_cheapest 143 = .ok (.iconst 0, 1) := by decide +kernel
theorem dX1_cheapest_144 : decode cX1_cheapest 144 = .ok (.istore 4, 2) := by decide +kernel
theorem dX1_cheapest_146 : decode cX1_cheapest 146 = .ok (.iload 4, 2) := by decide +kernel
theorem dX1_cheapest_148 : decode cX1_cheapest 148 = .ok (.iload_n 1, 1) := by decide +kernel
theorem dX1_cheapest_149 : decode cX1_cheapest 149 = .ok (.if_icmp .ge 31, 3) := by decide +kernel
theorem dX1_cheapest_152 : decode cX1_cheapest 152 = .ok (.aload_n 0, 1) := by decide +kernel
theorem dX1_cheapest_153 : decode cX1_cheapest 153 = .ok (.iload 4, 2) := by decide +kernel
theorem dX1_cheapest_155 : decode cX1_cheapest 155 = .ok (.iload_n 2, 1) := by decide +kernel
theorem dX1_cheapest_156 : decode cX1_cheapest 156 = .ok (.iload 4, 2) := by decide +kernel
theorem dX1_cheapest_158 : decode cX1_cheapest 158 = .ok (.iadd, 1) := by decide +kernel
theorem dX1_cheapest_159 : decode cX1_cheapest 159 = .ok (.invokevirtual 406, 3) := by decide +kernel
theorem dX1_cheapest_162 : decode cX1_cheapest 162 = .ok (.aload_n 0, 1) := by decide +kernel
theorem dX1_cheapest_163 : decode cX1_cheapest 163 = .ok (.iload 4, 2) := by decide +kernel
theorem dX1_cheapest_165 : decode cX1_cheapest 165 = .ok (.invokevirtual 409, 3) := by decide +kernel
theorem dX1_cheapest_168 : decode cX1_cheapest 168 = .ok (.if_icmp .le 6, 3) := by decide +kernel
theorem dX1_cheapest_171 : decode cX1_cheapest 171 = .ok (.iload 4, 2) := by decide +kernel
theorem dX1_cheapest_173 : decode cX1_cheapest 173 = .ok (.ireturn, 1) := by decide +kernel
theorem dX1_cheapest_174 : decode cX1_cheapest 174 = .ok (.iinc 4 1, 3) := by decide +kernel
theorem dX1_cheapest_177 : decode cX1_cheapest 177 = .ok (.goto (-31), 3) := by decide +kernel
theorem dX1_cheapest_180 : decode cX1_cheapest 180 = .ok (.iconst (-1), 1) := by decide +kernel
theorem dX1_cheapest_181 : decode cX1_cheapest 181 = .ok (.ireturn, 1) := by decide +kernel
abbrev rm_X1_cheapest : Room := k2_rm 3 57
section
variable {p : Program} {l : Launch} {e : Env} {s : State} {m : MethodId} {args : Array Value} {below : List Frame} {meth : Method} {c : Code} {D : gD} {A : Nat → Prop} {ad : Nat → Nat} {S : Nat → Nat × Nat} {σ : Mem}
set_option maxRecDepth 100000 in
set_option maxHeartbeats 4000000 in
theorem w_X1_cheapest_L39 (Z : Cz D (Ew D A) A cX1_cheapest 6 (some .int) RX1 p s m args meth c) {u1 : Int32} {u2 : Int32} {u3 : Int32} (hu0 : S 0 = (10, 0)) {r : (Mem × Int32)} {k65 : Mem → Option (Mem × Int32)}
    (hk65 : ∀ (σ : Mem)  (H : Heap) (locs : List Loc) (ls : Array Slot), St D A ad S σ s.heap H locs → lv_has ls 6 [(0, .ref (ad 0)), (1, .int u1), (2, .int u2), (3, .int u3)] → k65 σ = some r → W p l e rm_X1_cheapest s m args below meth c H locs 0 0 (MQ below (QG D A ad S (some (.int r.2)) r.1) args s 0 0 A) (F0 m 65 ls [])) :
    ∀ (n : Nat) (σ : Mem) (v4 : Int32) (H : Heap) (locs : List Loc) (ls : Array Slot), St D A ad S σ s.heap H locs → lv_has ls 6 [(0, .ref (ad 0)), (1, .int u1), (2, .int u2), (3, .int u3), (4, .int v4)] → f_X1_cheapest_L39 k65 u1 u2 u3 n σ v4 = some r → W p l e rm_X1_cheapest s m args below meth c H locs 0 0 (MQ below (QG D A ad S (some (.int r.2)) r.1) args s 0 0 A) (F0 m 39 ls []) := by
  have hx := Z.1
  have hb := Z.2.1
  have hown := Z.2.2.2.2.2.1
  have hts := Z.2.2.2.2.2.2.1
  intro n
  induction n with
  | zero => intro σ v4 H locs ls hS hl h; cases h
  | succ n ih =>
    intro σ v4 H locs ls hS hl h
    unfold f_X1_cheapest_L39 at h
    refine lv_iload hx hb dX1_cheapest_39 (lv_at hl 4 rfl) ?_
    refine lv_bipush (v := (81 : Int32)) hx hb dX1_cheapest_41 (by decide) ?_
    refine lv_icmp_ge (tgt := 65) hx hb dX1_cheapest_43 (by decide) (fun c7 => ?_) (fun c7 => ?_)
    · have h := if_t h c7
      exact hk65 _ _ _ _ hS (lv_sub hl [0, 1, 2, 3] rfl) h
    · have h := if_f h c7
      refine lv_aload_n hx hb dX1_cheapest_46 rfl (lv_at hl 0 rfl) ?_
      refine h_getC (n := 32) (j := 32) (sh := (1, 4941)) Z hS cls_0 hu0 (by decide) rfl rfl rfl fl_X1_105_0 dX1_cheapest_47 (fun hc8 => ?_)
      refine lv_bipush (v := (81 : Int32)) hx hb dX1_cheapest_50 (by decide) ?_
      refine lv_iload_n hx hb dX1_cheapest_52 rfl (lv_at hl 1 rfl) ?_
      refine lv_imul hx hb dX1_cheapest_53 ?_
      refine lv_iload hx hb dX1_cheapest_54 (lv_at hl 4 rfl) ?_
      refine lv_iadd hx hb dX1_cheapest_56 ?_
      refine lv_iconst (v := (0 : Int32)) hx hb dX1_cheapest_57 (by decide) ?_
      refine h_iast Z hS hc8 dX1_cheapest_58 h (fun σ9 H locs hS h => ?_)
      refine lv_iinc (v := (v4 + (1 : Int32))) (lv' := [(4, .int (v4 + (1 : Int32))), (0, .ref (ad 0)), (1, .int u1), (2, .int u2), (3, .int u3)]) hx hb dX1_cheapest_59 hl (k := 4) rfl rfl (by decide) rfl (fun ls hl => ?_)
      refine lv_goto (tgt := 39) hx hb dX1_cheapest_62 (by decide) ?_
      exact ih _ _ _ _ _ hS (lv_sub hl [1, 2, 3, 4, 0] rfl) h
set_option maxRecDepth 100000 in
set_option maxHeartbeats 4000000 in
theorem w_X1_cheapest_L78 (Z : Cz D (Ew D A) A cX1_cheapest 6 (some .int) RX1 p s m args meth c) {u1 : Int32} {u2 : Int32} {u3 : Int32} {u4 : Int32} (hu0 : S 0 = (10, 0)) {r : (Mem × Int32)} {k126 : Mem → Option (Mem × Int32)}
    (hk126 : ∀ (σ : Mem)  (H : Heap) (locs : List Loc) (ls : Array Slot), St D A ad S σ s.heap H locs → lv_has ls 6 [(0, .ref (ad 0)), (1, .int u1), (2, .int u2), (3, .int u3), (4, .int u4)] → k126 σ = some r → W p l e rm_X1_cheapest s m args below meth c H locs 0 0 (MQ below (QG D A ad S (some (.int r.2)) r.1) args s 0 0 A) (F0 m 126 ls [])) :
    ∀ (n : Nat) (σ : Mem) (v5 : Int32) (H : Heap) (locs : List Loc) (ls : Array Slot), St D A ad S σ s.heap H locs → lv_has ls 6 [(0, .ref (ad 0)), (1, .int u1), (2, .int u2), (3, .int u3), (4, .int u4), (5, .int v5)] → f_X1_cheapest_L78 k126 u1 u2 u3 u4 n σ v5 = some r → W p l e rm_X1_cheapest s m args below meth c H locs 0 0 (MQ below (QG D A ad S (some (.int r.2)) r.1) args s 0 0 A) (F0 m 78 ls []) := by
  have hx := Z.1
  have hb := Z.2.1
  have hown := Z.2.2.2.2.2.1
  have hts := Z.2.2.2.2.2.2.1
  intro n
  induction n with
  | zero => intro σ v5 H locs ls hS hl h; cases h
  | succ n ih =>
    intro σ v5 H locs ls hS hl h
    unfold f_X1_cheapest_L78 at h
    refine lv_iload hx hb dX1_cheapest_78 (lv_at hl 5 rfl) ?_
    refine lv_bipush (v := (20 : Int32)) hx hb dX1_cheapest_80 (by decide) ?_
    refine lv_iload hx hb dX1_cheapest_82 (lv_at hl 4 rfl) ?_
    refine lv_iadd hx hb dX1_cheapest_84 ?_
    refine lv_iconst (v := (1 : Int32)) hx hb dX1_cheapest_85 (by decide) ?_
    refine lv_iadd hx hb dX1_cheapest_86 ?_
    refine lv_icmp_ge (tgt := 126) hx hb dX1_cheapest_87 (by decide) (fun c13 => ?_) (fun c13 => ?_)
    · have h := if_t h c13
      exact hk126 _ _ _ _ hS (lv_sub hl [0, 1, 2, 3, 4] rfl) h
    · have h := if_f h c13
      refine lv_aload_n hx hb dX1_cheapest_90 rfl (lv_at hl 0 rfl) ?_
      refine h_getC (n := 32) (j := 32) (sh := (1, 4941)) Z hS cls_0 hu0 (by decide) rfl rfl rfl fl_X1_105_0 dX1_cheapest_91 (fun hc14 => ?_)
      refine lv_bipush (v := (81 : Int32)) hx hb dX1_cheapest_94 (by decide) ?_
      refine lv_iload hx hb dX1_cheapest_96 (lv_at hl 4 rfl) ?_
      refine lv_imul hx hb dX1_cheapest_98 ?_
      refine lv_iload hx hb dX1_cheapest_99 (lv_at hl 5 rfl) ?_
      refine lv_iadd hx hb dX1_cheapest_101 ?_
      refine lv_aload_n hx hb dX1_cheapest_102 rfl (lv_at hl 0 rfl) ?_
      refine lv_iload hx hb dX1_cheapest_103 (lv_at hl 4 rfl) ?_
      refine lv_iload hx hb dX1_cheapest_105 (lv_at hl 5 rfl) ?_
      refine h_ci hS h (fun z hz => h_rV (rest := [.int (((81 : Int32) * u4) + v5), .ref (ad 32)]) Z hS hu0 rfl v_X1_406 (w_X1_stays hu0 hz) rfl rfl ⟨by decide, by decide⟩ rfl hl.1 rfl (Nat.le_of_ble_eq_true rfl) (Nat.zero_le _) (Nat.zero_le _) dX1_cheapest_107) (fun x15 H locs hS h => ?_)
      refine lv_aload_n hx hb dX1_cheapest_110 rfl (lv_at hl 0 rfl) ?_
      refine lv_iload hx hb dX1_cheapest_111 (lv_at hl 4 rfl) ?_
      refine h_ci hS h (fun z hz => h_rV (rest := [.int x15, .int (((81 : Int32) * u4) + v5), .ref (ad 32)]) Z hS hu0 rfl v_X1_409 (w_X1_changes hu0 hz) rfl rfl ⟨by decide, by decide⟩ rfl hl.1 rfl (Nat.le_of_ble_eq_true rfl) (Nat.zero_le _) (Nat.zero_le _) dX1_cheapest_113) (fun x16 H locs hS h => ?_)
      refine y_imin hx hb (hl.1 ▸ Z.2.2.2.2.1) Z.2.2.2.2.2 q969 (by decide) (Nat.le_of_ble_eq_true rfl) (Nat.zero_le _) (Nat.zero_le _) dX1_cheapest_116 ?_
      refine h_iast Z hS hc14 dX1_cheapest_119 h (fun σ17 H locs hS h => ?_)
      refine lv_iinc (v := (v5 + (1 : Int32))) (lv' := [(5, .int (v5 + (1 : Int32))), (0, .ref (ad 0)), (1, .int u1), (2, .int u2), (3, .int u3), (4, .int u4)]) hx hb dX1_cheapest_120 hl (k := 5) rfl rfl (by decide) rfl (fun ls hl => ?_)
      refine lv_goto (tgt := 78) hx hb dX1_cheapest_123 (by decide) ?_
      exact ih _ _ _ _ _ hS (lv_sub hl [1, 2, 3, 4, 5, 0] rfl) h
set_option maxRecDepth 100000 in
set_option maxHeartbeats 4000000 in
theorem w_X1_cheapest_L70 (Z : Cz D (Ew D A) A cX1_cheapest 6 (some .int) RX1 p s m args meth c) {u1 : Int32} {u2 : Int32} {u3 : Int32} (hu0 : S 0 = (10, 0)) {r : (Mem × Int32)} {k132 : Mem → Option (Mem × Int32)}
    (hk132 : ∀ (σ : Mem)  (H : Heap) (locs : List Loc) (ls : Array Slot), St D A ad S σ s.heap H locs → lv_has ls 6 [(0, .ref (ad 0)), (1, .int u1), (2, .int u2), (3, .int u3)] → k132 σ = some r → W p l e rm_X1_cheapest s m args below meth c H locs 0 0 (MQ below (QG D A ad S (some (.int r.2)) r.1) args s 0 0 A) (F0 m 132 ls [])) :
    ∀ (n : Nat) (σ : Mem) (v4 : Int32) (H : Heap) (locs : List Loc) (ls : Array Slot), St D A ad S σ s.heap H locs → lv_has ls 6 [(0, .ref (ad 0)), (1, .int u1), (2, .int u2), (3, .int u3), (4, .int v4)] → f_X1_cheapest_L70 k132 u1 u2 u3 n σ v4 = some r → W p l e rm_X1_cheapest s m args below meth c H locs 0 0 (MQ below (QG D A ad S (some (.int r.2)) r.1) args s 0 0 A) (F0 m 70 ls []) := by
  have hx := Z.1
  have hb := Z.2.1
  have hown := Z.2.2.2.2.2.1
  have hts := Z.2.2.2.2.2.2.1
  intro n
  induction n with
  | zero => intro σ v4 H locs ls hS hl h; cases h
  | succ n ih =>
    intro σ v4 H locs ls hS hl h
    unfold f_X1_cheapest_L70 at h
    refine lv_iload hx hb dX1_cheapest_70 (lv_at hl 4 rfl) ?_
    refine lv_if_lt (tgt := 132) hx hb dX1_cheapest_72 (by decide) (fun c12 => ?_) (fun c12 => ?_)
    · have h := if_t h c12
      exact hk132 _ _ _ _ hS (lv_sub hl [0, 1, 2, 3] rfl) h
    · have h := if_f h c12
      refine lv_iconst (v := (0 : Int32)) hx hb dX1_cheapest_75 (by decide) ?_
      refine lv_istore (lv' := [(5, .int (0 : Int32)), (0, .ref (ad 0)), (1, .int u1), (2, .int u2), (3, .int u3), (4, .int v4)]) hx hb dX1_cheapest_76 hl (by decide) rfl (fun ls hl => ?_)
      refine w_X1_cheapest_L78 Z hu0 (fun σ18 H locs ls hS hl h => ?_) FU _ _ _ _ _ hS (lv_sub hl [1, 2, 3, 4, 5, 0] rfl) h
      refine lv_iinc (v := (v4 + (-1 : Int32))) (lv' := [(4, .int (v4 + (-1 : Int32))), (0, .ref (ad 0)), (1, .int u1), (2, .int u2), (3, .int u3)]) hx hb dX1_cheapest_126 hl (k := 4) rfl rfl (by decide) rfl (fun ls hl => ?_)
      refine lv_goto (tgt := 70) hx hb dX1_cheapest_129 (by decide) ?_
      exact ih _ _ _ _ _ hS (lv_sub hl [1, 2, 3, 4, 0] rfl) h
set_option maxRecDepth 100000 in
set_option maxHeartbeats 4000000 in
theorem w_X1_cheapest_L146 (Z : Cz D (Ew D A) A cX1_cheapest 6 (some .int) RX1 p s m args meth c) {u1 : Int32} {u2 : Int32} (hu0 : S 0 = (10, 0)) {r : (Mem × Int32)} {k171 : Int32 → Option (Mem × Int32)} {k180 : Option (Mem × Int32)}
    (hk171 : ∀ (w4 : Int32) (H : Heap) (locs : List Loc) (ls : Array Slot), St D A ad S σ s.heap H locs → lv_has ls 6 [(4, .int w4)] → k171 w4 = some r → W p l e rm_X1_cheapest s m args below meth c H locs 0 0 (MQ below (QG D A ad S (some (.int r.2)) r.1) args s 0 0 A) (F0 m 171 ls []))
    (hk180 : ∀  (H : Heap) (locs : List Loc) (ls : Array Slot), St D A ad S σ s.heap H locs → lv_has ls 6 [] → k180 = some r → W p l e rm_X1_cheapest s m args below meth c H locs 0 0 (MQ below (QG D A ad S (some (.int r.2)) r.1) args s 0 0 A) (F0 m 180 ls [])) :
    ∀ (n : Nat) (v4 : Int32) (H : Heap) (locs : List Loc) (ls : Array Slot), St D A ad S σ s.heap H locs → lv_has ls 6 [(0, .ref (ad 0)), (1, .int u1), (2, .int u2), (4, .int v4)] → f_X1_cheapest_L146 k171 k180 σ u1 u2 n v4 = some r → W p l e rm_X1_cheapest s m args below meth c H locs 0 0 (MQ below (QG D A ad S (some (.int r.2)) r.1) args s 0 0 A) (F0 m 146 ls []) := by
  have hx := Z.1
  have hb := Z.2.1
  have hown := Z.2.2.2.2.2.1
  have hts := Z.2.2.2.2.2.2.1
  intro n
  induction n with
  | zero => intro v4 H locs ls hS hl h; cases h
  | succ n ih =>
    intro v4 H locs ls hS hl h
    unfold f_X1_cheapest_L146 at h
    refine lv_iload hx hb dX1_cheapest_146 (lv_at hl 3 rfl) ?_
    refine lv_iload_n hx hb dX1_cheapest_148 rfl (lv_at hl 1 rfl) ?_
    refine lv_icmp_ge (tgt := 180) hx hb dX1_cheapest_149 (by decide) (fun c22 => ?_) (fun c22 => ?_)
    · have h := if_t h c22
      exact hk180  _ _ _ hS (lv_sub hl [] rfl) h
    · have h := if_f h c22
      refine lv_aload_n hx hb dX1_cheapest_152 rfl (lv_at hl 0 rfl) ?_
      refine lv_iload hx hb dX1_cheapest_153 (lv_at hl 3 rfl) ?_
      refine lv_iload_n hx hb dX1_cheapest_155 rfl (lv_at hl 2 rfl) ?_
      refine lv_iload hx hb dX1_cheapest_156 (lv_at hl 3 rfl) ?_
      refine lv_iadd hx hb dX1_cheapest_158 ?_
      refine h_ci hS h (fun z hz => h_rV (rest := []) Z hS hu0 rfl v_X1_406 (w_X1_stays hu0 hz) rfl rfl ⟨by decide, by decide⟩ rfl hl.1 rfl (Nat.le_of_ble_eq_true rfl) (Nat.zero_le _) (Nat.zero_le _) dX1_cheapest_159) (fun x23 H locs hS h => ?_)
      refine lv_aload_n hx hb dX1_cheapest_162 rfl (lv_at hl 0 rfl) ?_
      refine lv_iload hx hb dX1_cheapest_163 (lv_at hl 3 rfl) ?_
      refine h_ci hS h (fun z hz => h_rV (rest := [.int x23]) Z hS hu0 rfl v_X1_409 (w_X1_changes hu0 hz) rfl rfl ⟨by decide, by decide⟩ rfl hl.1 rfl (Nat.le_of_ble_eq_true rfl) (Nat.zero_le _) (Nat.zero_le _) dX1_cheapest_165) (fun x24 H locs hS h => ?_)
      refine lv_icmp_le (tgt := 174) hx hb dX1_cheapest_168 (by decide) (fun c25 => ?_) (fun c25 => ?_)
      · have h := if_t h c25
        refine lv_iinc (v := (v4 + (1 : Int32))) (lv' := [(4, .int (v4 + (1 : Int32))), (0, .ref (ad 0)), (1, .int u1), (2, .int u2)]) hx hb dX1_cheapest_174 hl (k := 3) rfl rfl (by decide) rfl (fun ls hl => ?_)
        refine lv_goto (tgt := 146) hx hb dX1_cheapest_177 (by decide) ?_
        exact ih _ _ _ _ hS (lv_sub hl [1, 2, 3, 0] rfl) h
      · have h := if_f h c25
        exact hk171 _ _ _ _ hS (lv_sub hl [3] rfl) h
set_option maxRecDepth 100000 in
set_option maxHeartbeats 4000000 in
theorem w_X1_cheapest {a1 : Int32} {a2 : Int32} {a3 : Int32} (hi0 : S 0 = (10, 0)) {r : (Mem × Int32)} (h : f_X1_cheapest σ a1 a2 a3 = some r) : Met l yX1_cheapest (ws_ yX1_cheapest cX1_cheapest 6 (some .int)) rm_X1_cheapest (va_Pc [.ref (ad 0), .int a1, .int a2, .int a3] (PreG D (Ew D A) A ad S σ)) (QG D A ad S (some (.int r.2)) r.1) 0 0 A := by
  refine y_met (by decide) (Nat.le_of_ble_eq_true rfl) (fun p e s m below meth c ls Z hS hl => ?_)
  have hx := Z.1
  have hb := Z.2.1
  have hown := Z.2.2.2.2.2.1
  have hts := Z.2.2.2.2.2.2.1
  unfold f_X1_cheapest at h
  refine lv_iload_n hx hb dX1_cheapest_0 rfl (lv_at hl 1 rfl) ?_
  refine lv_i2l hx hb dX1_cheapest_1 rfl ?_
  refine lv_lconst (v := (1 : Int64)) hx hb dX1_cheapest_2 (by decide) ?_
  refine lv_ldc2 (v := (60 : Int64)) hx hb hown (hts _ q1049) dX1_cheapest_3 ?_
  refine h_ci hS h (fun z hz => h_rS (rest := []) Z hS v_X1_5 (w_X1_isIn hz) rfl rfl ⟨by decide, by decide⟩ rfl hl.1 rfl (Nat.le_of_ble_eq_true rfl) (Nat.zero_le _) (Nat.zero_le _) dX1_cheapest_6) (fun x1 H locs hS h => ?_)
  refine lv_if_eq (tgt := 34) hx hb dX1_cheapest_9 (by decide) (fun c2 => ?_) (fun c2 => ?_)
  · have h := if_t h c2
    refine lv_iconst (v := (-1 : Int32)) hx hb dX1_cheapest_34 (by decide) ?_
    exact h_iretm Z hS dX1_cheapest_35 h
  · have h := if_f h c2
    refine lv_iload_n hx hb dX1_cheapest_12 rfl (lv_at hl 2 rfl) ?_
    refine lv_i2l hx hb dX1_cheapest_13 rfl ?_
    refine lv_lconst (v := (0 : Int64)) hx hb dX1_cheapest_14 (by decide) ?_
    refine lv_ldc2 (v := (19 : Int64)) hx hb hown (hts _ q1085) dX1_cheapest_15 ?_
    refine h_ci hS h (fun z hz => h_rS (rest := []) Z hS v_X1_5 (w_X1_isIn hz) rfl rfl ⟨by decide, by decide⟩ rfl hl.1 rfl (Nat.le_of_ble_eq_true rfl) (Nat.zero_le _) (Nat.zero_le _) dX1_cheapest_18) (fun x3 H locs hS h => ?_)
    refine lv_if_eq (tgt := 34) hx hb dX1_cheapest_21 (by decide) (fun c4 => ?_) (fun c4 => ?_)
    · have h := if_t h c4
      refine lv_iconst (v := (-1 : Int32)) hx hb dX1_cheapest_34 (by decide) ?_
      exact h_iretm Z hS dX1_cheapest_35 h
    · have h := if_f h c4
      refine lv_iload_n hx hb dX1_cheapest_24 rfl (lv_at hl 3 rfl) ?_
      refine lv_i2l hx hb dX1_cheapest_25 rfl ?_
      refine lv_lconst (v := (0 : Int64)) hx hb dX1_cheapest_26 (by decide) ?_
      refine lv_lconst (v := (1 : Int64)) hx hb dX1_cheapest_27 (by decide) ?_
      refine h_ci hS h (fun z hz => h_rS (rest := []) Z hS v_X1_5 (w_X1_isIn hz) rfl rfl ⟨by decide, by decide⟩ rfl hl.1 rfl (Nat.le_of_ble_eq_true rfl) (Nat.zero_le _) (Nat.zero_le _) dX1_cheapest_28) (fun x5 H locs hS h => ?_)
      refine lv_if_ne (tgt := 36) hx hb dX1_cheapest_31 (by decide) (fun c6 => ?_) (fun c6 => ?_)
      · have h := if_f h c6
        refine lv_iconst (v := (0 : Int32)) hx hb dX1_cheapest_36 (by decide) ?_
        refine lv_istore (lv' := [(4, .int (0 : Int32)), (0, .ref (ad 0)), (1, .int a1), (2, .int a2), (3, .int a3)]) hx hb dX1_cheapest_37 hl (by decide) rfl (fun ls hl => ?_)
        refine w_X1_cheapest_L39 Z hi0 (fun σ10 H locs ls hS hl h => ?_) FU _ _ _ _ _ hS (lv_sub hl [1, 2, 3, 4, 0] rfl) h
        refine lv_iload_n hx hb dX1_cheapest_65 rfl (lv_at hl 1 rfl) ?_
        refine lv_iconst (v := (1 : Int32)) hx hb dX1_cheapest_66 (by decide) ?_
        refine lv_isub hx hb dX1_cheapest_67 ?_
        refine h_leti h (fun x11 h => ?_)
        refine lv_istore (lv' := [(4, .int x11), (0, .ref (ad 0)), (1, .int a1), (2, .int a2), (3, .int a3)]) hx hb dX1_cheapest_68 hl (by decide) rfl (fun ls hl => ?_)
        refine w_X1_cheapest_L70 Z hi0 (fun σ19 H locs ls hS hl h => ?_) FU _ _ _ _ _ hS (lv_sub hl [1, 2, 3, 4, 0] rfl) h
        refine lv_iload_n hx hb dX1_cheapest_132 rfl (lv_at hl 3 rfl) ?_
        refine lv_if_ne (tgt := 143) hx hb dX1_cheapest_133 (by decide) (fun c20 => ?_) (fun c20 => ?_)
        · have h := if_f h c20
          refine lv_iconst (v := (0 : Int32)) hx hb dX1_cheapest_143 (by decide) ?_
          refine lv_istore (lv' := [(4, .int (0 : Int32)), (0, .ref (ad 0)), (1, .int a1), (2, .int a2), (3, .int a3)]) hx hb dX1_cheapest_144 hl (by decide) rfl (fun ls hl => ?_)
          refine w_X1_cheapest_L146 Z hi0 (fun x26 H locs ls hS hl h => ?_) (fun  H locs ls hS hl h => ?_) FU _ _ _ _ hS (lv_sub hl [1, 2, 3, 0] rfl) h
          · refine lv_iload hx hb dX1_cheapest_171 (lv_at hl 0 rfl) ?_
            exact h_iretm Z hS dX1_cheapest_173 h
          · refine lv_iconst (v := (-1 : Int32)) hx hb dX1_cheapest_180 (by decide) ?_
            exact h_iretm Z hS dX1_cheapest_181 h
        · have h := if_t h c20
          refine lv_aload_n hx hb dX1_cheapest_136 rfl (lv_at hl 0 rfl) ?_
          refine lv_iconst (v := (0 : Int32)) hx hb dX1_cheapest_137 (by decide) ?_
          refine lv_iload_n hx hb dX1_cheapest_138 rfl (lv_at hl 2 rfl) ?_
          refine h_ci hS h (fun z hz => h_rV (rest := []) Z hS hi0 rfl v_X1_403 (w_X1_cheapAt hi0 hz) rfl rfl ⟨by decide, by decide⟩ rfl hl.1 rfl (Nat.le_of_ble_eq_true rfl) (Nat.zero_le _) (Nat.zero_le _) dX1_cheapest_139) (fun x21 H locs hS h => ?_)
          exact h_iretm Z hS dX1_cheapest_142 h
      · have h := if_t h c6
        refine lv_iconst (v := (-1 : Int32)) hx hb dX1_cheapest_34 (by decide) ?_
        exact h_iretm Z hS dX1_cheapest_35 h
end
theorem dX1_gauge_0 : decode cX1_gauge 0 = .ok (.aload_n 0, 1) := by decide +kernel
theorem dX1_gauge_1 : decode cX1_gauge 1 = .ok (.getfield 412, 3) := by decide +kernel
theorem dX1_gauge_4 : decode cX1_gauge 4 = .ok (.bipush 100, 2) := by decide +kernel
theorem dX1_gauge_6 : decode cX1_gauge 6 = .ok (.if_icmp .eq 38, 3) := by decide +kernel
theorem dX1_gauge_9 : decode cX1_gauge 9 = .ok (.aload_n 0, 1) := by decide +kernel
theorem dX1_gauge_10 : decode cX1_gauge 10 = .ok (.iload_n 1, 1) := by decide +kernel
theorem dX1_gauge_11 : decode cX1_gauge 11 = .ok (.iload_n 2, 1) := by decide +kernel
theorem dX1_gauge_12 : decode cX1_gauge 12 = .ok (.invokevirtual 167, 3) := by decide +kernel
theorem dX1_gauge_15 : decode cX1_gauge 15 = .ok (.ifCond .eq 29, 3) := by decide +kernel
theorem dX1_gauge_18 : decode cX1_gauge 18 = .ok (.iload_n 3, 1) := by decide +kernel
theorem dX1_gauge_19 : decode cX1_gauge 19 = .ok (.i2l, 1) := by decide +kernel
theorem dX1_gauge_20 : decode cX1_gauge 20 = .ok (.lconst 1, 1) := by decide +kernel
theorem dX1_gauge_21 : decode cX1_gauge 21 = .ok (.ldc2_w 395, 3) := by decide +kernel
theorem dX1_gauge_24 : decode cX1_gauge 24 = .ok (.invokestatic 5, 3) := by decide +kernel
theorem dX1_gauge_27 : decode cX1_gauge 27 = .ok (.ifCond .eq 17, 3) := by decide +kernel
theorem dX1_gauge_30 : decode cX1_gauge 30 = .ok (.iload 4, 2) := by decide +kernel
theorem dX1_gauge_32 : decode cX1_gauge 32 = .ok (.i2l, 1) := by decide +kernel
theorem dX1_gauge_33 : decode cX1_gauge 33 = .ok (.iload_n 3, 1) := by decide +kernel
theorem dX1_gauge_34 : decode cX1_gauge 34 = .ok (.i2l, 1) := by decide +kernel
theorem dX1_gauge_35 : decode cX1_gauge 35 = .ok (.ldc2_w 395, 3) := by decide +kernel
theorem dX1_gauge_38 : decode cX1_gauge 38 = .ok (.invokestatic 5, 3) := by decide +kernel
theorem dX1_gauge_41 : decode cX1_gauge 41 = .ok (.ifCond .ne 5, 3) := by decide +kernel
theorem dX1_gauge_44 : decode cX1_gauge 44 = .ok (.iconst (-1), 1) := by decide +kernel
theorem dX1_gauge_45 : decode cX1_gauge 45 = .ok (.ireturn, 1) := by decide +kernel
theorem dX1_gauge_46 : decode cX1_gauge 46 = .ok (.aload_n 0, 1) := by decide +kernel
theorem dX1_gauge_47 : decode cX1_gauge 47 = .ok (.getfield 108, 3) := by decide +kernel
theorem dX1_gauge_50 : decode cX1_gauge 50 = .ok (.aload_n 0, 1) := by decide +kernel
theorem dX1_gauge_51 : decode cX1_gauge 51 = .ok (.getfield 412, 3) := by decide +kernel
theorem dX1_gauge_54 : decode cX1_gauge 54 = .ok (.iload_n 1, 1) := by decide +kernel
theorem dX1_gauge_55 : decode cX1_gauge 55 = .ok (.iastore, 1) := by decide +kernel
theorem dX1_gauge_56 : decode cX1_gauge 56 = .ok (.aload_n 0, 1) := by decide +kernel
theorem dX1_gauge_57 : decode cX1_gauge 57 = .ok (.getfield 111, 3) := by decide +kernel
theorem dX1_gauge_60 : decode cX1_gauge 60 = .ok (.aload_n 0, 1) := by decide +kernel
theorem dX1_gauge_61 : decode cX1_gauge 61 = .ok (.getfield 412, 3) := by decide +kernel
theorem dX1_gauge_64 : decode cX1_gauge 64 = .ok (.iload_n 2, 1) := by decide +kernel
theorem dX1_gauge_65 : decode cX1_gauge 65 = .ok (.iastore, 1) := by decide +kernel
theorem dX1_gauge_66 : decode cX1_gauge 66 = .ok (.aload_n 0, 1) := by decide +kernel
theorem dX1_gauge_67 : decode cX1_gauge 67 = .ok (.getfield 114, 3) := by decide +kernel
theorem dX1_gauge_70 : decode cX1_gauge 70 = .ok (.aload_n 0, 1) := by decide +kernel
theorem dX1_gauge_71 : decode cX1_gauge 71 = .ok (.getfield 412, 3) := by decide +kernel
theorem dX1_gauge_74 : decode cX1_gauge 74 = .ok (.iload_n 3, 1) := by decide +kernel
theorem dX1_gauge_75 : decode cX1_gauge 75 = .ok (.iastore, 1) := by decide +kernel
theorem dX1_gauge_76 : decode cX1_gauge 76 = .ok (.aload_n 0, 1) := by decide +kernel
theorem dX1_gauge_77 : decode cX1_gauge 77 = .ok (.getfield 117, 3) := by decide +kernel
theorem dX1_gauge_80 : decode cX1_gauge 80 = .ok (.aload_n 0, 1) := by decide +kernel
theorem dX1_gauge_81 : decode cX1_gauge 81 = .ok (.getfield 412, 3) := by decide +kernel
theorem dX1_gauge_84 : decode cX1_gauge 84 = .ok (.iload 4, 2) := by decide +kernel
theorem dX1_gauge_86 : decode cX1_gauge 86 = .ok (.iastore, 1) := by decide +kernel
theorem dX1_gauge_87 : decode cX1_gauge 87 = .ok (.aload_n 0, 1) := by decide +kernel
theorem dX1_gauge_88 : decode cX1_gauge 88 = .ok (.getfield 120, 3) := by decide +kernel
theorem dX1_gauge_91 : decode cX1_gauge 91 = .ok (.aload_n 0, 1) := by decide +kernel
theorem dX1_gauge_92 : decode cX1_gauge 92 = .ok (.getfield 412, 3) := by decide +kernel
theorem dX1_gauge_95 : decode cX1_gauge 95 = .ok (.aload_n 0, 1) := by decide +kernel
theorem dX1_gauge_96 : decode cX1_gauge 96 = .ok (.getfield 299, 3) := by decide +kernel
theorem dX1_gauge_99 : decode cX1_gauge 99 = .ok (.iastore, 1) := by decide +kernel
theorem dX1_gauge_100 : decode cX1_gauge 100 = .ok (.aload_n 0, 1) := by decide +kernel
theorem dX1_gauge_101 : decode cX1_gauge 101 = .ok (.dup, 1) := by decide +kernel
theorem dX1_gauge_102 : decode cX1_gauge 102 = .ok (.getfield 412, 3) := by decide +kernel
theorem dX1_gauge_105 : decode cX1_gauge 105 = .ok (.iconst 1, 1) := by decide +kernel
theorem dX1_gauge_106 : decode cX1_gauge 106 = .ok (.iadd, 1) := by decide +kernel
theorem dX1_gauge_107 : decode cX1_gauge 107 = .ok (.putfield 412, 3) := by decide +kernel
theorem dX1_gauge_110 : decode cX1_gauge 110 = .ok (.aload_n 0, 1) := by decide +kernel
theorem dX1_gauge_111 : decode cX1_gauge 111 = .ok (.getfield 412, 3) := by decide +kernel
theorem dX1_gauge_114 : decode cX1_gauge 114 = .ok (.iconst 1, 1) := by decide +kernel
theorem dX1_gauge_115 : decode cX1_gauge 115 = .ok (.isub, 1) := by decide +kernel
theorem dX1_gauge_116 : decode cX1_gauge 116 = .ok (.ireturn, 1) := by decide +kernel
abbrev rm_X1_gauge : Room := k2_rm 2 47
section
variable {p : Program} {l : Launch} {e : Env} {s : State} {m : MethodId} {args : Array Value} {below : List Frame} {meth : Method} {c : Code} {D : gD} {A : Nat → Prop} {ad : Nat → Nat} {S : Nat → Nat × Nat} {σ : Mem}
set_option maxRecDepth 100000 in
set_option maxHeartbeats 4000000 in
theorem w_X1_gauge {a1 : Int32} {a2 : Int32} {a3 : Int32} {a4 : Int32} (hi0 : S 0 = (10, 0)) {r : (Mem × Int32)} (h : f_X1_gauge σ a1 a2 a3 a4 = some r) : Met l yX1_gauge (ws_ yX1_gauge cX1_gauge 5 (some .int)) rm_X1_gauge (va_Pc [.ref (ad 0), .int a1, .int a2, .int a3, .int a4] (PreG D (Ew D A) A ad S σ)) (QG D A ad S (some (.int r.2)) r.1) 0 0 A := by
  refine y_met (by decide) (Nat.le_of_ble_eq_true rfl) (fun p e s m below meth c ls Z hS hl => ?_)
  have hx := Z.1
  have hb := Z.2.1
  have hown := Z.2.2.2.2.2.1
  have hts := Z.2.2.2.2.2.2.1
  unfold f_X1_gauge at h
  refine lv_aload_n hx hb dX1_gauge_0 rfl (lv_at hl 0 rfl) ?_
  refine h_getI Z hS cls_0 hi0 (by decide) rfl fl_X1_412_0 dX1_gauge_1 h (fun x1 h => ?_)
  refine lv_bipush (v := (100 : Int32)) hx hb dX1_gauge_4 (by decide) ?_
  refine lv_icmp_eq (tgt := 44) hx hb dX1_gauge_6 (by decide) (fun c2 => ?_) (fun c2 => ?_)
  · have h := if_t h c2
    refine lv_iconst (v := (-1 : Int32)) hx hb dX1_gauge_44 (by decide) ?_
    exact h_iretm Z hS dX1_gauge_45 h
  · have h := if_f h c2
    refine lv_aload_n hx hb dX1_gauge_9 rfl (lv_at hl 0 rfl) ?_
    refine lv_iload_n hx hb dX1_gauge_10 rfl (lv_at hl 1 rfl) ?_
    refine lv_iload_n hx hb dX1_gauge_11 rfl (lv_at hl 2 rfl) ?_
    refine h_ci hS h (fun z hz => h_rV (rest := []) Z hS hi0 rfl v_X1_167 (w_X1_isCell hi0 hz) rfl rfl ⟨by decide, by decide⟩ rfl hl.1 rfl (Nat.le_of_ble_eq_true rfl) (Nat.zero_le _) (Nat.zero_le _) dX1_gauge_12) (fun x3 H locs hS h => ?_)
    refine lv_if_eq (tgt := 44) hx hb dX1_gauge_15 (by decide) (fun c4 => ?_) (fun c4 => ?_)
    · have h := if_t h c4
      refine lv_iconst (v := (-1 : Int32)) hx hb dX1_gauge_44 (by decide) ?_
      exact h_iretm Z hS dX1_gauge_45 h
    · have h := if_f h c4
      refine lv_iload_n hx hb dX1_gauge_18 rfl (lv_at hl 3 rfl) ?_
      refine lv_i2l hx hb dX1_gauge_19 rfl ?_
      refine lv_lconst (v := (1 : Int64)) hx hb dX1_gauge_20 (by decide) ?_
      refine lv_ldc2 (v := (10000 : Int64)) hx hb hown (hts _ q1086) dX1_gauge_21 ?_
      refine h_ci hS h (fun z hz => h_rS (rest := []) Z hS v_X1_5 (w_X1_isIn hz) rfl rfl ⟨by decide, by decide⟩ rfl hl.1 rfl (Nat.le_of_ble_eq_true rfl) (Nat.zero_le _) (Nat.zero_le _) dX1_gauge_24) (fun x5 H locs hS h => ?_)
      refine lv_if_eq (tgt := 44) hx hb dX1_gauge_27 (by decide) (fun c6 => ?_) (fun c6 => ?_)
      · have h := if_t h c6
        refine lv_iconst (v := (-1 : Int32)) hx hb dX1_gauge_44 (by decide) ?_
        exact h_iretm Z hS dX1_gauge_45 h
      · have h := if_f h c6
        refine lv_iload hx hb dX1_gauge_30 (lv_at hl 4 rfl) ?_
        refine lv_i2l hx hb dX1_gauge_32 rfl ?_
        refine lv_iload_n hx hb dX1_gauge_33 rfl (lv_at hl 3 rfl) ?_
        refine lv_i2l hx hb dX1_gauge_34 rfl ?_
        refine lv_ldc2 (v := (10000 : Int64)) hx hb hown (hts _ q1086) dX1_gauge_35 ?_
        refine h_ci hS h (fun z hz => h_rS (rest := []) Z hS v_X1_5 (w_X1_isIn hz) rfl rfl ⟨by decide, by decide⟩ rfl hl.1 rfl (Nat.le_of_ble_eq_true rfl) (Nat.zero_le _) (Nat.zero_le _) dX1_gauge_38) (fun x7 H locs hS h => ?_)
        refine lv_if_ne (tgt := 46) hx hb dX1_gauge_41 (by decide) (fun c8 => ?_) (fun c8 => ?_)
        · have h := if_f h c8
          refine lv_aload_n hx hb dX1_gauge_46 rfl (lv_at hl 0 rfl) ?_
          refine h_getC (n := 34) (j := 34) (sh := (1, 100)) Z hS cls_0 hi0 (by decide) rfl rfl rfl fl_X1_108_0 dX1_gauge_47 (fun hc9 => ?_)
          refine lv_aload_n hx hb dX1_gauge_50 rfl (lv_at hl 0 rfl) ?_
          refine h_getI Z hS cls_0 hi0 (by decide) rfl fl_X1_412_0 dX1_gauge_51 h (fun x10 h => ?_)
          refine lv_iload_n hx hb dX1_gauge_54 rfl (lv_at hl 1 rfl) ?_
          refine h_iast Z hS hc9 dX1_gauge_55 h (fun σ11 H locs hS h => ?_)
          refine lv_aload_n hx hb dX1_gauge_56 rfl (lv_at hl 0 rfl) ?_
          refine h_getC (n := 35) (j := 35) (sh := (1, 100)) Z hS cls_0 hi0 (by decide) rfl rfl rfl fl_X1_111_0 dX1_gauge_57 (fun hc12 => ?_)
          refine lv_aload_n hx hb dX1_gauge_60 rfl (lv_at hl 0 rfl) ?_
          refine h_getI Z hS cls_0 hi0 (by decide) rfl fl_X1_412_0 dX1_gauge_61 h (fun x13 h => ?_)
          refine lv_iload_n hx hb dX1_gauge_64 rfl (lv_at hl 2 rfl) ?_
          refine h_iast Z hS hc12 dX1_gauge_65 h (fun σ14 H locs hS h => ?_)
          refine lv_aload_n hx hb dX1_gauge_66 rfl (lv_at hl 0 rfl) ?_
          refine h_getC (n := 36) (j := 36) (sh := (1, 100)) Z hS cls_0 hi0 (by decide) rfl rfl rfl fl_X1_114_0 dX1_gauge_67 (fun hc15 => ?_)
          refine lv_aload_n hx hb dX1_gauge_70 rfl (lv_at hl 0 rfl) ?_
          refine h_getI Z hS cls_0 hi0 (by decide) rfl fl_X1_412_0 dX1_gauge_71 h (fun x16 h => ?_)
          refine lv_iload_n hx hb dX1_gauge_74 rfl (lv_at hl 3 rfl) ?_
          refine h_iast Z hS hc15 dX1_gauge_75 h (fun σ17 H locs hS h => ?_)
          refine lv_aload_n hx hb dX1_gauge_76 rfl (lv_at hl 0 rfl) ?_
          refine h_getC (n := 37) (j := 37) (sh := (1, 100)) Z hS cls_0 hi0 (by decide) rfl rfl rfl fl_X1_117_0 dX1_gauge_77 (fun hc18 => ?_)
          refine lv_aload_n hx hb dX1_gauge_80 rfl (lv_at hl 0 rfl) ?_
          refine h_getI Z hS cls_0 hi0 (by decide) rfl fl_X1_412_0 dX1_gauge_81 h (fun x19 h => ?_)
          refine lv_iload hx hb dX1_gauge_84 (lv_at hl 4 rfl) ?_
          refine h_iast Z hS hc18 dX1_gauge_86 h (fun σ20 H locs hS h => ?_)
          refine lv_aload_n hx hb dX1_gauge_87 rfl (lv_at hl 0 rfl) ?_
          refine h_getC (n := 38) (j := 38) (sh := (1, 100)) Z hS cls_0 hi0 (by decide) rfl rfl rfl fl_X1_120_0 dX1_gauge_88 (fun hc21 => ?_)
          refine lv_aload_n hx hb dX1_gauge_91 rfl (lv_at hl 0 rfl) ?_
          refine h_getI Z hS cls_0 hi0 (by decide) rfl fl_X1_412_0 dX1_gauge_92 h (fun x22 h => ?_)
          refine lv_aload_n hx hb dX1_gauge_95 rfl (lv_at hl 0 rfl) ?_
          refine h_getI Z hS cls_0 hi0 (by decide) rfl fl_X1_299_0 dX1_gauge_96 h (fun x23 h => ?_)
          refine h_iast Z hS hc21 dX1_gauge_99 h (fun σ24 H locs hS h => ?_)
          refine lv_aload_n hx hb dX1_gauge_100 rfl (lv_at hl 0 rfl) ?_
          refine lv_dup hx hb dX1_gauge_101 rfl ?_
          refine h_getI Z hS cls_0 hi0 (by decide) rfl fl_X1_412_0 dX1_gauge_102 h (fun x25 h => ?_)
          refine lv_iconst (v := (1 : Int32)) hx hb dX1_gauge_105 (by decide) ?_
          refine lv_iadd hx hb dX1_gauge_106 ?_
          refine h_putI Z hS cls_0 hi0 (by decide) rfl rfl rfl fl_X1_412_0 dX1_gauge_107 h (fun σ26 H locs hS h => ?_)
          refine lv_aload_n hx hb dX1_gauge_110 rfl (lv_at hl 0 rfl) ?_
          refine h_getI Z hS cls_0 hi0 (by decide) rfl fl_X1_412_0 dX1_gauge_111 h (fun x27 h => ?_)
          refine lv_iconst (v := (1 : Int32)) hx hb dX1_gauge_114 (by decide) ?_
          refine lv_isub hx hb dX1_gauge_115 ?_
          exact h_iretm Z hS dX1_gauge_116 h
        · have h := if_t h c8
          refine lv_iconst (v := (-1 : Int32)) hx hb dX1_gauge_44 (by decide) ?_
          exact h_iretm Z hS dX1_gauge_45 h
end
theorem dX1_goes_2_0 : decode cX1_goes_2 0 = .ok (.iload 4, 2) := by decide +kernel
theorem dX1_goes_2_2 : decode cX1_goes_2 2 = .ok (.invokestatic 415, 3) := by decide +kernel
theorem dX1_goes_2_5 : decode cX1_goes_2 5 = .ok (.istore 6, 2) := by decide +kernel
theorem dX1_goes_2_7 : decode cX1_goes_2 7 = .ok (.iconst 0, 1) := by decide +kernel
theorem dX1_goes_2_8 : decode cX1_goes_2 8 = .ok (.istore 7, 2) := by decide +kernel
theorem dX1_goes_2_10 : decode cX1_goes_2 10 = .ok (.iload 7, 2) := by decide +kernel
theorem dX1_goes_2_12 : decode cX1_goes_2 12 = .ok (.iload 5, 2) := by decide +kernel
theorem dX1_goes_2_14 : decode cX1_goes_2 14 = .ok (.if_icmp .gt 69, 3) := by decide +kernel
theorem dX1_goes_2_17 : decode cX1_goes_2 17 = .ok (.aload_n 0, 1) := by decide +kernel
theorem dX1_goes_2_18 : decode cX1_goes_2 18 = .ok (.getfield 108, 3) := by decide +kernel
theorem dX1_goes_2_21 : decode cX1_goes_2 21 = .ok (.iload 7, 2) := by decide +kernel
theorem dX1_goes_2_23 : decode cX1_goes_2 23 = .ok (.iaload, 1) := by decide +kernel
theorem dX1_goes_2_24 : decode cX1_goes_2 24 = .ok (.iload_n 1, 1) := by decide +kernel
theorem dX1_goes_2_25 : decode cX1_goes_2 25 = .ok (.if_icmp .ne 52, 3) := by decide +kernel
theorem dX1_goes_2_28 : decode cX1_goes_2 28 = .ok (.aload_n 0, 1) := by decide +kernel
theorem dX1_goes_2_29 : decode cX1_goes_2 29 = .ok (.getfield 111, 3) := by decide +kernel
theorem dX1_goes_2_32 : decode cX1_goes_2 32 = .ok (.iload 7, 2) := by decide +kernel
theorem dX1_goes_2_34 : decode cX1_goes_2 34 = .ok (.iaload, 1) := by decide +kernel
theorem dX1_goes_2_35 : decode cX1_goes_2 35 = .ok (.iload_n 2, 1) := by decide +kernel
theorem dX1_goes_2_36 : decode cX1_goes_2 36 = .ok (.if_icmp .ne 41, 3) := by decide +kernel
theorem dX1_goes_2_39 : decode cX1_goes_2 39 = .ok (.aload_n 0, 1) := by decide +kernel
theorem dX1_goes_2_40 : decode cX1_goes_2 40 = .ok (.getfield 120, 3) := by decide +kernel
theorem dX1_goes_2_43 : decode cX1_goes_2 43 = .ok (.iload 7, 2) := by decide +kernel
theorem dX1_goes_2_45 : decode cX1_goes_2 45 = .ok (.iaload, 1) := by decide +kernel
theorem dX1_goes_2_46 : decode cX1_goes_2 46 = .ok (.iload_n 3, 1) := by decide +kernel
theorem dX1_goes_2_47 : decode cX1_goes_2 47 = .ok (.if_icmp .gt 30, 3) := by decide +kernel
theorem dX1_goes_2_50 : decode cX1_goes_2 50 = .ok (.iload 6, 2) := by decide +kernel
theorem dX1_goes_2_52 : decode cX1_goes_2 52 = .ok (.i2l, 1) := by decide +kernel
theorem dX1_goes_2_53 : decode cX1_goes_2 53 = .ok (.aload_n 0, 1) := by decide +kernel
theorem dX1_goes_2_54 : decode cX1_goes_2 54 = .ok (.getfield 114, 3) := by decide +kernel
theorem dX1_goes_2_57 : decode cX1_goes_2 57 = .ok (.iload 7, 2) := by decide +kernel
theorem dX1_goes_2_59 : decode cX1_goes_2 59 = .ok (.iaload, 1) := by decide +kernel
theorem dX1_goes_2_60 : decode cX1_goes_2 60 = .ok (.i2l, 1) := by decide +kernel
theorem dX1_goes_2_61 : decode cX1_goes_2 61 = .ok (.aload_n 0, 1) := by decide +kernel
theorem dX1_goes_2_62 : decode cX1_goes_2 62 = .ok (.getfield 117, 3) := by decide +kernel
theorem dX1_goes_2_65 : decode cX1_goes_2 65 = .ok (.iload 7, 2) := by decide +kernel
theorem dX1_goes_2_67 : decode cX1_goes_2 67 = .ok (.iaload, 1) := by decide +kernel
theorem dX1_goes_2_68 : decode cX1_goes_2 68 = .ok (.i2l, 1) := by decide +kernel
theorem dX1_goes_2_69 : decode cX1_goes_2 69 = .ok (.invokestatic 5, 3) := by decide +kernel
theorem dX1_goes_2_72 : decode cX1_goes_2 72 = .ok (.ifCond .ne 5, 3) := by decide +kernel
theorem dX1_goes_2_75 : decode cX1_goes_2 75 = .ok (.iconst 0, 1) := by decide +kernel
theorem dX1_goes_2_76 : decode cX1_goes_2 76 = .ok (.ireturn, 1) := by decide +kernel
theorem dX1_goes_2_77 : decode cX1_goes_2 77 = .ok (.iinc 7 1, 3) := by decide +kernel
theorem dX1_goes_2_80 : decode cX1_goes_2 80 = .ok (.goto (-70), 3) := by decide +kernel
theorem dX1_goes_2_83 : decode cX1_goes_2 83 = .ok (.iconst 1, 1) := by decide +kernel
theorem dX1_goes_2_84 : decode cX1_goes_2 84 = .ok (.ireturn, 1) := by decide +kernel
abbrev rm_X1_goes_2 : Room := k2_rm 2 33
section
variable {p : Program} {l : Launch} {e : Env} {s : State} {m : MethodId} {args : Array Value} {below : List Frame} {meth : Method} {c : Code} {D : gD} {A : Nat → Prop} {ad : Nat → Nat} {S : Nat → Nat × Nat} {σ : Mem}
set_option maxRecDepth 100000 in
set_option maxHeartbeats 4000000 in
theorem w_X1_goes_2_L10 (Z : Cz D (Ew D A) A cX1_goes_2 8 (some .boolean) RX1 p s m args meth c) {u1 : Int32} {u2 : Int32} {u3 : Int32} {u5 : Int32} {u6 : Int32} (hu0 : S 0 = (10, 0)) {r : Int32} {k75 : Option Int32} {k83 : Option Int32}
    (hk75 : ∀  (H : Heap) (locs : List Loc) (ls : Array Slot), St D A ad S σ s.heap H locs → lv_has ls 8 [] → k75 = some r → W p l e rm_X1_goes_2 s m args below meth c H locs 0 0 (MQ below (QG D A ad S (some (.int r)) σ) args s 0 0 A) (F0 m 75 ls []))
    (hk83 : ∀  (H : Heap) (locs : List Loc) (ls : Array Slot), St D A ad S σ s.heap H locs → lv_has ls 8 [] → k83 = some r → W p l e rm_X1_goes_2 s m args below meth c H locs 0 0 (MQ below (QG D A ad S (some (.int r)) σ) args s 0 0 A) (F0 m 83 ls [])) :
    ∀ (n : Nat) (v7 : Int32) (H : Heap) (locs : List Loc) (ls : Array Slot), St D A ad S σ s.heap H locs → lv_has ls 8 [(0, .ref (ad 0)), (1, .int u1), (2, .int u2), (3, .int u3), (5, .int u5), (6, .int u6), (7, .int v7)] → f_X1_goes_2_L10 k75 k83 σ u1 u2 u3 u5 u6 n v7 = some r → W p l e rm_X1_goes_2 s m args below meth c H locs 0 0 (MQ below (QG D A ad S (some (.int r)) σ) args s 0 0 A) (F0 m 10 ls []) := by
  have hx := Z.1
  have hb := Z.2.1
  have hown := Z.2.2.2.2.2.1
  have hts := Z.2.2.2.2.2.2.1
  intro n
  induction n with
  | zero => intro v7 H locs ls hS hl h; cases h
  | succ n ih =>
    intro v7 H locs ls hS hl h
    unfold f_X1_goes_2_L10 at h
    refine lv_iload hx hb dX1_goes_2_10 (lv_at hl 6 rfl) ?_
    refine lv_iload hx hb dX1_goes_2_12 (lv_at hl 4 rfl) ?_
    refine lv_icmp_gt (tgt := 83) hx hb dX1_goes_2_14 (by decide) (fun c2 => ?_) (fun c2 => ?_)
    · have h := if_t h c2
      exact hk83  _ _ _ hS (lv_sub hl [] rfl) h
    · have h := if_f h c2
      refine lv_aload_n hx hb dX1_goes_2_17 rfl (lv_at hl 0 rfl) ?_
      refine h_getC (n := 34) (j := 34) (sh := (1, 100)) Z hS cls_0 hu0 (by decide) rfl rfl rfl fl_X1_108_0 dX1_goes_2_18 (fun hc3 => ?_)
      refine lv_iload hx hb dX1_goes_2_21 (lv_at hl 6 rfl) ?_
      refine h_iald Z hS hc3 dX1_goes_2_23 h (fun x4 h => ?_)
      refine lv_iload_n hx hb dX1_goes_2_24 rfl (lv_at hl 1 rfl) ?_
      refine lv_icmp_ne (tgt := 77) hx hb dX1_goes_2_25 (by decide) (fun c5 => ?_) (fun c5 => ?_)
      · have h := if_f h c5
        refine lv_iinc (v := (v7 + (1 : Int32))) (lv' := [(7, .int (v7 + (1 : Int32))), (0, .ref (ad 0)), (1, .int u1), (2, .int u2), (3, .int u3), (5, .int u5), (6, .int u6)]) hx hb dX1_goes_2_77 hl (k := 6) rfl rfl (by decide) rfl (fun ls hl => ?_)
        refine lv_goto (tgt := 10) hx hb dX1_goes_2_80 (by decide) ?_
        exact ih _ _ _ _ hS (lv_sub hl [1, 2, 3, 4, 5, 6, 0] rfl) h
      · have h := if_t h c5
        refine lv_aload_n hx hb dX1_goes_2_28 rfl (lv_at hl 0 rfl) ?_
        refine h_getC (n := 35) (j := 35) (sh := (1, 100)) Z hS cls_0 hu0 (by decide) rfl rfl rfl fl_X1_111_0 dX1_goes_2_29 (fun hc6 => ?_)
        refine lv_iload hx hb dX1_goes_2_32 (lv_at hl 6 rfl) ?_
        refine h_iald Z hS hc6 dX1_goes_2_34 h (fun x7 h => ?_)
        refine lv_iload_n hx hb dX1_goes_2_35 rfl (lv_at hl 2 rfl) ?_
        refine lv_icmp_ne (tgt := 77) hx hb dX1_goes_2_36 (by decide) (fun c8 => ?_) (fun c8 => ?_)
        · have h := if_f h c8
          refine lv_iinc (v := (v7 + (1 : Int32))) (lv' := [(7, .int (v7 + (1 : Int32))), (0, .ref (ad 0)), (1, .int u1), (2, .int u2), (3, .int u3), (5, .int u5), (6, .int u6)]) hx hb dX1_goes_2_77 hl (k := 6) rfl rfl (by decide) rfl (fun ls hl => ?_)
          refine lv_goto (tgt := 10) hx hb dX1_goes_2_80 (by decide) ?_
          exact ih _ _ _ _ hS (lv_sub hl [1, 2, 3, 4, 5, 6, 0] rfl) h
        · have h := if_t h c8
          refine lv_aload_n hx hb dX1_goes_2_39 rfl (lv_at hl 0 rfl) ?_
          refine h_getC (n := 38) (j := 38) (sh := (1, 100)) Z hS cls_0 hu0 (by decide) rfl rfl rfl fl_X1_120_0 dX1_goes_2_40 (fun hc9 => ?_)
          refine lv_iload hx hb dX1_goes_2_43 (lv_at hl 6 rfl) ?_
          refine h_iald Z hS hc9 dX1_goes_2_45 h (fun x10 h => ?_)
          refine lv_iload_n hx hb dX1_goes_2_46 rfl (lv_at hl 3 rfl) ?_
          refine lv_icmp_gt (tgt := 77) hx hb dX1_goes_2_47 (by decide) (fun c11 => ?_) (fun c11 => ?_)
          · have h := if_t h c11
            refine lv_iinc (v := (v7 + (1 : Int32))) (lv' := [(7, .int (v7 + (1 : Int32))), (0, .ref (ad 0)), (1, .int u1), (2, .int u2), (3, .int u3), (5, .int u5), (6, .int u6)]) hx hb dX1_goes_2_77 hl (k := 6) rfl rfl (by decide) rfl (fun ls hl => ?_)
            refine lv_goto (tgt := 10) hx hb dX1_goes_2_80 (by decide) ?_
            exact ih _ _ _ _ hS (lv_sub hl [1, 2, 3, 4, 5, 6, 0] rfl) h
          · have h := if_f h c11
            refine lv_iload hx hb dX1_goes_2_50 (lv_at hl 5 rfl) ?_
            refine lv_i2l hx hb dX1_goes_2_52 rfl ?_
            refine lv_aload_n hx hb dX1_goes_2_53 rfl (lv_at hl 0 rfl) ?_
            refine h_getC (n := 36) (j := 36) (sh := (1, 100)) Z hS cls_0 hu0 (by decide) rfl rfl rfl fl_X1_114_0 dX1_goes_2_54 (fun hc12 => ?_)
            refine lv_iload hx hb dX1_goes_2_57 (lv_at hl 6 rfl) ?_
            refine h_iald Z hS hc12 dX1_goes_2_59 h (fun x13 h => ?_)
            refine lv_i2l hx hb dX1_goes_2_60 rfl ?_
            refine lv_aload_n hx hb dX1_goes_2_61 rfl (lv_at hl 0 rfl) ?_
            refine h_getC (n := 37) (j := 37) (sh := (1, 100)) Z hS cls_0 hu0 (by decide) rfl rfl rfl fl_X1_117_0 dX1_goes_2_62 (fun hc14 => ?_)
            refine lv_iload hx hb dX1_goes_2_65 (lv_at hl 6 rfl) ?_
            refine h_iald Z hS hc14 dX1_goes_2_67 h (fun x15 h => ?_)
            refine lv_i2l hx hb dX1_goes_2_68 rfl ?_
            refine h_ci hS h (fun z hz => h_rS (rest := []) Z hS v_X1_5 (w_X1_isIn hz) rfl rfl ⟨by decide, by decide⟩ rfl hl.1 rfl (Nat.le_of_ble_eq_true rfl) (Nat.zero_le _) (Nat.zero_le _) dX1_goes_2_69) (fun x16 H locs hS h => ?_)
            refine lv_if_ne (tgt := 77) hx hb dX1_goes_2_72 (by decide) (fun c17 => ?_) (fun c17 => ?_)
            · have h := if_f h c17
              refine lv_iinc (v := (v7 + (1 : Int32))) (lv' := [(7, .int (v7 + (1 : Int32))), (0, .ref (ad 0)), (1, .int u1), (2, .int u2), (3, .int u3), (5, .int u5), (6, .int u6)]) hx hb dX1_goes_2_77 hl (k := 6) rfl rfl (by decide) rfl (fun ls hl => ?_)
              refine lv_goto (tgt := 10) hx hb dX1_goes_2_80 (by decide) ?_
              exact ih _ _ _ _ hS (lv_sub hl [1, 2, 3, 4, 5, 6, 0] rfl) h
            · have h := if_t h c17
              exact hk75  _ _ _ hS (lv_sub hl [] rfl) h
set_option maxRecDepth 100000 in
set_option maxHeartbeats 4000000 in
theorem w_X1_goes_2 {a1 : Int32} {a2 : Int32} {a3 : Int32} {a4 : Int32} {a5 : Int32} (hi0 : S 0 = (10, 0)) {r : Int32} (h : f_X1_goes_2 σ a1 a2 a3 a4 a5 = some r) : Met l yX1_goes_2 (ws_ yX1_goes_2 cX1_goes_2 8 (some .boolean)) rm_X1_goes_2 (va_Pc [.ref (ad 0), .int a1, .int a2, .int a3, .int a4, .int a5] (PreG D (Ew D A) A ad S σ)) (QG D A ad S (some (.int r)) σ) 0 0 A := by
  refine y_met (by decide) (Nat.le_of_ble_eq_true rfl) (fun p e s m below meth c ls Z hS hl => ?_)
  have hx := Z.1
  have hb := Z.2.1
  have hown := Z.2.2.2.2.2.1
  have hts := Z.2.2.2.2.2.2.1
  unfold f_X1_goes_2 at h
  refine lv_iload hx hb dX1_goes_2_0 (lv_at hl 4 rfl) ?_
  refine h_ci hS h (fun z hz => h_rS (rest := []) Z hS v_X1_415 (w_X7_resistOf hz) rfl rfl ⟨by decide, by decide⟩ rfl hl.1 rfl (Nat.le_of_ble_eq_true rfl) (Nat.zero_le _) (Nat.zero_le _) dX1_goes_2_2) (fun x1 H locs hS h => ?_)
  refine lv_istore (lv' := [(6, .int x1), (0, .ref (ad 0)), (1, .int a1), (2, .int a2), (3, .int a3), (4, .int a4), (5, .int a5)]) hx hb dX1_goes_2_5 hl (by decide) rfl (fun ls hl => ?_)
  refine lv_iconst (v := (0 : Int32)) hx hb dX1_goes_2_7 (by decide) ?_
  refine lv_istore (lv' := [(7, .int (0 : Int32)), (6, .int x1), (0, .ref (ad 0)), (1, .int a1), (2, .int a2), (3, .int a3), (4, .int a4), (5, .int a5)]) hx hb dX1_goes_2_8 hl (by decide) rfl (fun ls hl => ?_)
  refine w_X1_goes_2_L10 Z hi0 (fun  H locs ls hS hl h => ?_) (fun  H locs ls hS hl h => ?_) FU _ _ _ _ hS (lv_sub hl [2, 3, 4, 5, 7, 1, 0] rfl) h
  · refine lv_iconst (v := (0 : Int32)) hx hb dX1_goes_2_75 (by decide) ?_
    exact h_zret Z hS dX1_goes_2_76 h
  · refine lv_iconst (v := (1 : Int32)) hx hb dX1_goes_2_83 (by decide) ?_
    exact h_zret Z hS dX1_goes_2_84 h
end
theorem dX1_back_0 : decode cX1_back 0 = .ok (.aload_n 0, 1) := by decide +kernel
theorem dX1_back_1 : decode cX1_back 1 = .ok (.iload_n 1, 1) := by decide +kernel
theorem dX1_back_2 : decode cX1_back 2 = .ok (.iload_n 2, 1) := by decide +kernel
theorem dX1_back_3 : decode cX1_back 3 = .ok (.invokevirtual 167, 3) := by decide +kernel
theorem dX1_back_6 : decode cX1_back 6 = .ok (.ifCond .eq 28, 3) := by decide +kernel
theorem dX1_back_9 : decode cX1_back 9 = .ok (.iload_n 3, 1) := by decide +kernel
theorem dX1_back_10 : decode cX1_back 10 = .ok (.i2l, 1) := by decide +kernel
theorem dX1_back_11 : decode cX1_back 11 = .ok (.lconst 0, 1) := by decide +kernel
theorem dX1_back_12 : decode cX1_back 12 = .ok (.aload_n 0, 1) := by decide +kernel
theorem dX1_back_13 : decode cX1_back 13 = .ok (.getfield 299, 3) := by decide +kernel
theorem dX1_back_16 : decode cX1_back 16 = .ok (.i2l, 1) := by decide +kernel
theorem dX1_back_17 : decode cX1_back 17 = .ok (.invokestatic 5, 3) := by decide +kernel
theorem dX1_back_20 : decode cX1_back 20 = .ok (.ifCond .eq 14, 3) := by decide +kernel
theorem dX1_back_23 : decode cX1_back 23 = .ok (.iload 4, 2) := by decide +kernel
theorem dX1_back_25 : decode cX1_back 25 = .ok (.i2l, 1) := by decide +kernel
theorem dX1_back_26 : decode cX1_back 26 = .ok (.lconst 0, 1) := by decide +kernel
theorem dX1_back_27 : decode cX1_back 27 = .ok (.lconst 1, 1) := by decide +kernel
theorem dX1_back_28 : decode cX1_back 28 = .ok (.invokestatic 5, 3) := by decide +kernel
theorem dX1_back_31 : decode cX1_back 31 = .ok (.ifCond .ne 5, 3) := by decide +kernel
theorem dX1_back_34 : decode cX1_back 34 = .ok (.iconst (-1), 1) := by decide +kernel
theorem dX1_back_35 : decode cX1_back 35 = .ok (.ireturn, 1) := by decide +kernel
theorem dX1_back_36 : decode cX1_back 36 = .ok (.aload_n 0, 1) := by decide +kernel
theorem dX1_back_37 : decode cX1_back 37 = .ok (.getfield 24, 3) := by decide +kernel
theorem dX1_back_40 : decode cX1_back 40 = .ok (.iload_n 1, 1) := by decide +kernel
theorem dX1_back_41 : decode cX1_back 41 = .ok (.aaload, 1) := by decide +kernel
theorem dX1_back_42 : decode cX1_back 42 = .ok (.getfield 156, 3) := by decide +kernel
theorem dX1_back_45 : decode cX1_back 45 = .ok (.iload_n 2, 1) := by decide +kernel
theorem dX1_back_46 : decode cX1_back 46 = .ok (.aaload, 1) := by decide +kernel
theorem dX1_back_47 : decode cX1_back 47 = .ok (.astore 5, 2) := by decide +kernel
theorem dX1_back_49 : decode cX1_back 49 = .ok (.iconst (-1), 1) := by decide +kernel
theorem dX1_back_50 : decode cX1_back 50 = .ok (.istore 6, 2) := by decide +kernel
theorem dX1_back_52 : decode cX1_back 52 = .ok (.iconst 1, 1) := by decide +kernel
theorem dX1_back_53 : decode cX1_back 53 = .ok (.istore 7, 2) := by decide +kernel
theorem dX1_back_55 : decode cX1_back 55 = .ok (.iload 7, 2) := by decide +kernel
theorem dX1_back_57 : decode cX1_back 57 = .ok (.aload 5, 2) := by decide +kernel
theorem dX1_back_59 : decode cX1_back 59 = .ok (.getfield 171, 3) := by decide +kernel
theorem dX1_back_62 : decode cX1_back 62 = .ok (.if_icmp .gt 91, 3) := by decide +kernel
theorem dX1_back_65 : decode cX1_back 65 = .ok (.aload_n 0, 1) := by decide +kernel
theorem dX1_back_66 : decode cX1_back 66 = .ok (.iload_n 1, 1) := by decide +kernel
theorem dX1_back_67 : decode cX1_back 67 = .ok (.iload_n 2, 1) := by decide +kernel
theorem dX1_back_68 : decode cX1_back 68 = .ok (.iload_n 3, 1) := by decide +kernel
theorem dX1_back_69 : decode cX1_back 69 = .ok (.iload 7, 2) := by decide +kernel
theorem dX1_back_71 : decode cX1_back 71 = .ok (.aload_n 0, 1) := by decide +kernel
theorem dX1_back_72 : decode cX1_back 72 = .ok (.getfield 412, 3) := by decide +kernel
theorem dX1_back_75 : decode cX1_back 75 = .ok (.iconst 1, 1) := by decide +kernel
theorem dX1_back_76 : decode cX1_back 76 = .ok (.isub, 1) := by decide +kernel
theorem dX1_back_77 : decode cX1_back 77 = .ok (.invokevirtual 418, 3) := by decide +kernel
theorem dX1_back_80 : decode cX1_back 80 = .ok (.ifCond .ne 6, 3) := by decide +kernel
theorem dX1_back_83 : decode cX1_back 83 = .ok (.goto 64, 3) := by decide +kernel
theorem dX1_back_86 : decode cX1_back 86 = .ok (.aload 5, 2) := by decide +kernel
theorem dX1_back_88 : decode cX1_back 88 = .ok (.getfield 171, 3) := by decide +kernel
theorem dX1_back_91 : decode cX1_back 91 = .ok (.iload 7, 2) := by decide +kernel
theorem dX1_back_93 : decode cX1_back 93 = .ok (.isub, 1) := by decide +kernel
theorem dX1_back_94 : decode cX1_back 94 = .ok (.aload 5, 2) := by decide +kernel
theorem dX1_back_96 : decode cX1_back 96 = .ok (.getfield 174, 3) := by decide +kernel
theorem dX1_back_99 : decode cX1_back 99 = .ok (.imul, 1) := by decide +kernel
theorem dX1_back_100 : decode cX1_back 100 = .ok (.istore 8, 2) := by decide +kernel
theorem dX1_back_102 : decode cX1_back 102 = .ok (.iload 4, 2) := by decide +kernel
theorem dX1_back_104 : decode cX1_back 104 = .ok (.ifCond .ne 26, 3) := by decide +kernel
theorem dX1_back_107 : decode cX1_back 107 = .ok (.iload 6, 2) := by decide +kernel
theorem dX1_back_109 : decode cX1_back 109 = .ok (.iconst (-1), 1) := by decide +kernel
theorem dX1_back_110 : decode cX1_back 110 = .ok (.if_icmp .ne 8, 3) := by decide +kernel
theorem dX1_back_113 : decode cX1_back 113 = .ok (.iload 8, 2) := by decide +kernel
theorem dX1_back_115 : decode cX1_back 115 = .ok (.goto 10, 3) := by decide +kernel
theorem dX1_back_118 : decode cX1_back 118 = .ok (.iload 6, 2) := by decide +kernel
theorem dX1_back_120 : decode cX1_back 120 = .ok (.iload 8, 2) := by decide +kernel
theorem dX1_back_122 : decode cX1_back 122 = .ok (.invokestatic 318, 3) := by decide +kernel
theorem dX1_back_125 : decode cX1_back 125 = .ok (.istore 6, 2) := by decide +kernel
theorem dX1_back_127 : decode cX1_back 127 = .ok (.goto 20, 3) := by decide +kernel
theorem dX1_back_130 : decode cX1_back 130 = .ok (.iload 6, 2) := by decide +kernel
theorem dX1_back_132 : decode cX1_back 132 = .ok (.iload 8, 2) := by decide +kernel
theorem dX1_back_134 : decode cX1_back 134 = .ok (.aload 5, 2) := by decide +kernel
theorem dX1_back_136 : decode cX1_back 136 = .ok (.getfield 174, 3) := by decide +kernel
theorem dX1_back_139 : decode cX1_back 139 = .ok (.iadd, 1) := by decide +kernel
theorem dX1_back_140 : decode cX1_back 140 = .ok (.iconst 1, 1) := by decide +kernel
theorem dX1_back_141 : decode cX1_back 141 = .ok (.isub, 1) := by decide +kernel
theorem dX1_back_142 : decode cX1_back 142 = .ok (.invokestatic 321, 3) := by decide +kernel
theorem dX1_back_145 : decode cX1_back 145 = .ok (.istore 6, 2) := by decide +kernel
theorem dX1_back_147 : decode cX1_back 147 = .ok (.iinc 7 1, 3) := by decide +kernel
theorem dX1_back_150 : decode cX1_back 150 = .ok (.goto (-95), 3) := by decide +kernel
theorem dX1_back_153 : decode cX1_back 153 = .ok (.iload 6, 2) := by decide +kernel
theorem dX1_back_155 : decode cX1_back 155 = .ok (.ireturn, 1) := by decide +kernel
abbrev rm_X1_back : Room := k2_rm 3 60
section
variable {p : Program} {l : Launch} {e : Env} {s : State} {m : MethodId} {args : Array Value} {below : List Frame} {meth : Method} {c : Code} {D : gD} {A : Nat → Prop} {ad : Nat → Nat} {S : Nat → Nat × Nat} {σ : Mem}
set_option maxRecDepth 100000 in
set_option maxHeartbeats 4000000 in
theorem w_X1_back_L55 (Z : Cz D (Ew D A) A cX1_back 9 (some .int) RX1 p s m args meth c) {u1 : Int32} {u2 : Int32} {u3 : Int32} {u4 : Int32} {u5 : Nat} (hu0 : S 0 = (10, 0)) (hu5 : S u5 = (14, 0)) {r : Int32} {k153 : Int32 → Option Int32}
    (hk153 : ∀ (w6 : Int32) (H : Heap) (locs : List Loc) (ls : Array Slot), St D A ad S σ s.heap H locs → lv_has ls 9 [(6, .int w6)] → k153 w6 = some r → W p l e rm_X1_back s m args below meth c H locs 0 0 (MQ below (QG D A ad S (some (.int r)) σ) args s 0 0 A) (F0 m 153 ls [])) :
    ∀ (n : Nat) (v6 : Int32) (v7 : Int32) (H : Heap) (locs : List Loc) (ls : Array Slot), St D A ad S σ s.heap H locs → lv_has ls 9 [(0, .ref (ad 0)), (1, .int u1), (2, .int u2), (3, .int u3), (4, .int u4), (5, .ref (ad u5)), (6, .int v6), (7, .int v7)] → f_X1_back_L55 k153 σ u1 u2 u3 u4 u5 n v6 v7 = some r → W p l e rm_X1_back s m args below meth c H locs 0 0 (MQ below (QG D A ad S (some (.int r)) σ) args s 0 0 A) (F0 m 55 ls []) := by
  have hx := Z.1
  have hb := Z.2.1
  have hown := Z.2.2.2.2.2.1
  have hts := Z.2.2.2.2.2.2.1
  intro n
  induction n with
  | zero => intro v6 v7 H locs ls hS hl h; cases h
  | succ n ih =>
    intro v6 v7 H locs ls hS hl h
    unfold f_X1_back_L55 at h
    refine lv_iload hx hb dX1_back_55 (lv_at hl 7 rfl) ?_
    refine lv_aload hx hb dX1_back_57 (lv_at hl 5 rfl) ?_
    refine h_getI Z hS cls_4 hu5 (by decide) rfl fl_X1_171_4 dX1_back_59 h (fun x12 h => ?_)
    refine lv_icmp_gt (tgt := 153) hx hb dX1_back_62 (by decide) (fun c13 => ?_) (fun c13 => ?_)
    · have h := if_t h c13
      exact hk153 _ _ _ _ hS (lv_sub hl [6] rfl) h
    · have h := if_f h c13
      refine lv_aload_n hx hb dX1_back_65 rfl (lv_at hl 0 rfl) ?_
      refine lv_iload_n hx hb dX1_back_66 rfl (lv_at hl 1 rfl) ?_
      refine lv_iload_n hx hb dX1_back_67 rfl (lv_at hl 2 rfl) ?_
      refine lv_iload_n hx hb dX1_back_68 rfl (lv_at hl 3 rfl) ?_
      refine lv_iload hx hb dX1_back_69 (lv_at hl 7 rfl) ?_
      refine lv_aload_n hx hb dX1_back_71 rfl (lv_at hl 0 rfl) ?_
      refine h_getI Z hS cls_0 hu0 (by decide) rfl fl_X1_412_0 dX1_back_72 h (fun x14 h => ?_)
      refine lv_iconst (v := (1 : Int32)) hx hb dX1_back_75 (by decide) ?_
      refine lv_isub hx hb dX1_back_76 ?_
      refine h_ci hS h (fun z hz => h_rV (rest := []) Z hS hu0 rfl v_X1_418 (w_X1_goes_2 hu0 hz) rfl rfl ⟨by decide, by decide⟩ rfl hl.1 rfl (Nat.le_of_ble_eq_true rfl) (Nat.zero_le _) (Nat.zero_le _) dX1_back_77) (fun x15 H locs hS h => ?_)
      refine lv_if_ne (tgt := 86) hx hb dX1_back_80 (by decide) (fun c16 => ?_) (fun c16 => ?_)
      · have h := if_f h c16
        refine lv_aload hx hb dX1_back_86 (lv_at hl 5 rfl) ?_
        refine h_getI Z hS cls_4 hu5 (by decide) rfl fl_X1_171_4 dX1_back_88 h (fun x17 h => ?_)
        refine lv_iload hx hb dX1_back_91 (lv_at hl 7 rfl) ?_
        refine lv_isub hx hb dX1_back_93 ?_
        refine lv_aload hx hb dX1_back_94 (lv_at hl 5 rfl) ?_
        refine h_getI Z hS cls_4 hu5 (by decide) rfl fl_X1_174_4 dX1_back_96 h (fun x18 h => ?_)
        refine lv_imul hx hb dX1_back_99 ?_
        refine h_leti h (fun x19 h => ?_)
        refine lv_istore (lv' := [(8, .int x19), (0, .ref (ad 0)), (1, .int u1), (2, .int u2), (3, .int u3), (4, .int u4), (5, .ref (ad u5)), (6, .int v6), (7, .int v7)]) hx hb dX1_back_100 hl (by decide) rfl (fun ls hl => ?_)
        refine lv_iload hx hb dX1_back_102 (lv_at hl 5 rfl) ?_
        refine lv_if_ne (tgt := 130) hx hb dX1_back_104 (by decide) (fun c20 => ?_) (fun c20 => ?_)
        · have h := if_f h c20
          refine lv_iload hx hb dX1_back_130 (lv_at hl 7 rfl) ?_
          refine lv_iload hx hb dX1_back_132 (lv_at hl 0 rfl) ?_
          refine lv_aload hx hb dX1_back_134 (lv_at hl 6 rfl) ?_
          refine h_getI Z hS cls_4 hu5 (by decide) rfl fl_X1_174_4 dX1_back_136 h (fun x24 h => ?_)
          refine lv_iadd hx hb dX1_back_139 ?_
          refine lv_iconst (v := (1 : Int32)) hx hb dX1_back_140 (by decide) ?_
          refine lv_isub hx hb dX1_back_141 ?_
          refine y_imax hx hb (hl.1 ▸ Z.2.2.2.2.1) Z.2.2.2.2.2 q970 (by decide) (Nat.le_of_ble_eq_true rfl) (Nat.zero_le _) (Nat.zero_le _) dX1_back_142 ?_
          refine h_leti h (fun x25 h => ?_)
          refine lv_istore (lv' := [(6, .int x25), (8, .int x19), (0, .ref (ad 0)), (1, .int u1), (2, .int u2), (3, .int u3), (4, .int u4), (5, .ref (ad u5)), (7, .int v7)]) hx hb dX1_back_145 hl (by decide) rfl (fun ls hl => ?_)
          refine lv_iinc (v := (v7 + (1 : Int32))) (lv' := [(7, .int (v7 + (1 : Int32))), (6, .int x25), (8, .int x19), (0, .ref (ad 0)), (1, .int u1), (2, .int u2), (3, .int u3), (4, .int u4), (5, .ref (ad u5))]) hx hb dX1_back_147 hl (k := 8) rfl rfl (by decide) rfl (fun ls hl => ?_)
          refine lv_goto (tgt := 55) hx hb dX1_back_150 (by decide) ?_
          exact ih _ _ _ _ _ hS (lv_sub hl [3, 4, 5, 6, 7, 8, 1, 0] rfl) h
        · have h := if_t h c20
          refine lv_iload hx hb dX1_back_107 (lv_at hl 7 rfl) ?_
          refine lv_iconst (v := (-1 : Int32)) hx hb dX1_back_109 (by decide) ?_
          obtain ⟨x22, hp23, h⟩ := bnd_el h
          have K23 : ∀ (H : Heap) (locs : List Loc) (ls : Array Slot), St D A ad S σ s.heap H locs → lv_has ls 9 [(0, .ref (ad 0)), (1, .int u1), (2, .int u2), (3, .int u3), (4, .int u4), (5, .ref (ad u5)), (7, .int v7)] → W p l e rm_X1_back s m args below meth c H locs 0 0 (MQ below (QG D A ad S (some (.int r)) σ) args s 0 0 A) (F0 m 125 ls [.int x22]) := by
            intro H locs ls hS hl
            refine lv_istore (lv' := [(6, .int x22), (0, .ref (ad 0)), (1, .int u1), (2, .int u2), (3, .int u3), (4, .int u4), (5, .ref (ad u5)), (7, .int v7)]) hx hb dX1_back_125 hl (by decide) rfl (fun ls hl => ?_)
            refine lv_goto (tgt := 147) hx hb dX1_back_127 (by decide) ?_
            refine lv_iinc (v := (v7 + (1 : Int32))) (lv' := [(7, .int (v7 + (1 : Int32))), (6, .int x22), (0, .ref (ad 0)), (1, .int u1), (2, .int u2), (3, .int u3), (4, .int u4), (5, .ref (ad u5))]) hx hb dX1_back_147 hl (k := 7) rfl rfl (by decide) rfl (fun ls hl => ?_)
            refine lv_goto (tgt := 55) hx hb dX1_back_150 (by decide) ?_
            exact ih _ _ _ _ _ hS (lv_sub hl [2, 3, 4, 5, 6, 7, 1, 0] rfl) h
          clear h
          have h := hp23
          clear hp23
          refine lv_icmp_ne (tgt := 118) hx hb dX1_back_110 (by decide) (fun c21 => ?_) (fun c21 => ?_)
          · have h := if_f h c21
            refine lv_iload hx hb dX1_back_118 (lv_at hl 7 rfl) ?_
            refine lv_iload hx hb dX1_back_120 (lv_at hl 0 rfl) ?_
            refine y_imin hx hb (hl.1 ▸ Z.2.2.2.2.1) Z.2.2.2.2.2 q969 (by decide) (Nat.le_of_ble_eq_true rfl) (Nat.zero_le _) (Nat.zero_le _) dX1_back_122 ?_
            cases h
            exact K23 _ _ _ hS (lv_sub hl [1, 2, 3, 4, 5, 6, 8] rfl)
          · have h := if_t h c21
            refine lv_iload hx hb dX1_back_113 (lv_at hl 0 rfl) ?_
            refine lv_goto (tgt := 125) hx hb dX1_back_115 (by decide) ?_
            cases h
            exact K23 _ _ _ hS (lv_sub hl [1, 2, 3, 4, 5, 6, 8] rfl)
      · have h := if_t h c16
        refine lv_goto (tgt := 147) hx hb dX1_back_83 (by decide) ?_
        refine lv_iinc (v := (v7 + (1 : Int32))) (lv' := [(7, .int (v7 + (1 : Int32))), (0, .ref (ad 0)), (1, .int u1), (2, .int u2), (3, .int u3), (4, .int u4), (5, .ref (ad u5)), (6, .int v6)]) hx hb dX1_back_147 hl (k := 7) rfl rfl (by decide) rfl (fun ls hl => ?_)
        refine lv_goto (tgt := 55) hx hb dX1_back_150 (by decide) ?_
        exact ih _ _ _ _ _ hS (lv_sub hl [1, 2, 3, 4, 5, 6, 7, 0] rfl) h
set_option maxRecDepth 100000 in
set_option maxHeartbeats 4000000 in
theorem w_X1_back {a1 : Int32} {a2 : Int32} {a3 : Int32} {a4 : Int32} (hi0 : S 0 = (10, 0)) {r : Int32} (h : f_X1_back σ a1 a2 a3 a4 = some r) : Met l yX1_back (ws_ yX1_back cX1_back 9 (some .int)) rm_X1_back (va_Pc [.ref (ad 0), .int a1, .int a2, .int a3, .int a4] (PreG D (Ew D A) A ad S σ)) (QG D A ad S (some (.int r)) σ) 0 0 A := by
  refine y_met (by decide) (Nat.le_of_ble_eq_true rfl) (fun p e s m below meth c ls Z hS hl => ?_)
  have hx := Z.1
  have hb := Z.2.1
  have hown := Z.2.2.2.2.2.1
  have hts := Z.2.2.2.2.2.2.1
  unfold f_X1_back at h
  refine lv_aload_n hx hb dX1_back_0 rfl (lv_at hl 0 rfl) ?_
  refine lv_iload_n hx hb dX1_back_1 rfl (lv_at hl 1 rfl) ?_
  refine lv_iload_n hx hb dX1_back_2 rfl (lv_at hl 2 rfl) ?_
  refine h_ci hS h (fun z hz => h_rV (rest := []) Z hS hi0 rfl v_X1_167 (w_X1_isCell hi0 hz) rfl rfl ⟨by decide, by decide⟩ rfl hl.1 rfl (Nat.le_of_ble_eq_true rfl) (Nat.zero_le _) (Nat.zero_le _) dX1_back_3) (fun x1 H locs hS h => ?_)
  refine lv_if_eq (tgt := 34) hx hb dX1_back_6 (by decide) (fun c2 => ?_) (fun c2 => ?_)
  · have h := if_t h c2
    refine lv_iconst (v := (-1 : Int32)) hx hb dX1_back_34 (by decide) ?_
    exact h_iret Z hS dX1_back_35 h
  · have h := if_f h c2
    refine lv_iload_n hx hb dX1_back_9 rfl (lv_at hl 3 rfl) ?_
    refine lv_i2l hx hb dX1_back_10 rfl ?_
    refine lv_lconst (v := (0 : Int64)) hx hb dX1_back_11 (by decide) ?_
    refine lv_aload_n hx hb dX1_back_12 rfl (lv_at hl 0 rfl) ?_
    refine h_getI Z hS cls_0 hi0 (by decide) rfl fl_X1_299_0 dX1_back_13 h (fun x3 h => ?_)
    refine lv_i2l hx hb dX1_back_16 rfl ?_
    refine h_ci hS h (fun z hz => h_rS (rest := []) Z hS v_X1_5 (w_X1_isIn hz) rfl rfl ⟨by decide, by decide⟩ rfl hl.1 rfl (Nat.le_of_ble_eq_true rfl) (Nat.zero_le _) (Nat.zero_le _) dX1_back_17) (fun x4 H locs hS h => ?_)
    refine lv_if_eq (tgt := 34) hx hb dX1_back_20 (by decide) (fun c5 => ?_) (fun c5 => ?_)
    · have h := if_t h c5
      refine lv_iconst (v := (-1 : Int32)) hx hb dX1_back_34 (by decide) ?_
      exact h_iret Z hS dX1_back_35 h
    · have h := if_f h c5
      refine lv_iload hx hb dX1_back_23 (lv_at hl 4 rfl) ?_
      refine lv_i2l hx hb dX1_back_25 rfl ?_
      refine lv_lconst (v := (0 : Int64)) hx hb dX1_back_26 (by decide) ?_
      refine lv_lconst (v := (1 : Int64)) hx hb dX1_back_27 (by decide) ?_
      refine h_ci hS h (fun z hz => h_rS (rest := []) Z hS v_X1_5 (w_X1_isIn hz) rfl rfl ⟨by decide, by decide⟩ rfl hl.1 rfl (Nat.le_of_ble_eq_true rfl) (Nat.zero_le _) (Nat.zero_le _) dX1_back_28) (fun x6 H locs hS h => ?_)
      refine lv_if_ne (tgt := 36) hx hb dX1_back_31 (by decide) (fun c7 => ?_) (fun c7 => ?_)
      · have h := if_f h c7
        refine lv_aload_n hx hb dX1_back_36 rfl (lv_at hl 0 rfl) ?_
        refine h_getC (n := 3) (j := 3) (sh := (5, 8)) Z hS cls_0 hi0 (by decide) rfl rfl rfl fl_X1_24_0 dX1_back_37 (fun hc8 => ?_)
        refine lv_iload_n hx hb dX1_back_40 rfl (lv_at hl 1 rfl) ?_
        refine h_aldN (sh := (12, 0)) Z hS hc8 (by decide) (by decide) rfl dX1_back_41 h (fun j9 hj9 h => ?_)
        refine h_getC (n := 1) (j := (j9 + 1)) (sh := (6, 10)) Z hS cls_2 hj9 (by decide) rfl rfl rfl fl_X1_156_2 dX1_back_42 (fun hc10 => ?_)
        refine lv_iload_n hx hb dX1_back_45 rfl (lv_at hl 2 rfl) ?_
        refine h_aldN (sh := (14, 0)) Z hS hc10 (by decide) (by decide) rfl dX1_back_46 h (fun j11 hj11 h => ?_)
        refine lv_astore (lv' := [(5, .ref (ad j11)), (0, .ref (ad 0)), (1, .int a1), (2, .int a2), (3, .int a3), (4, .int a4)]) hx hb dX1_back_47 hl (by decide) rfl (fun ls hl => ?_)
        refine lv_iconst (v := (-1 : Int32)) hx hb dX1_back_49 (by decide) ?_
        refine lv_istore (lv' := [(6, .int (-1 : Int32)), (5, .ref (ad j11)), (0, .ref (ad 0)), (1, .int a1), (2, .int a2), (3, .int a3), (4, .int a4)]) hx hb dX1_back_50 hl (by decide) rfl (fun ls hl => ?_)
        refine lv_iconst (v := (1 : Int32)) hx hb dX1_back_52 (by decide) ?_
        refine lv_istore (lv' := [(7, .int (1 : Int32)), (6, .int (-1 : Int32)), (5, .ref (ad j11)), (0, .ref (ad 0)), (1, .int a1), (2, .int a2), (3, .int a3), (4, .int a4)]) hx hb dX1_back_53 hl (by decide) rfl (fun ls hl => ?_)
        refine w_X1_back_L55 Z hi0 hj11 (fun x26 H locs ls hS hl h => ?_) FU _ _ _ _ _ hS (lv_sub hl [3, 4, 5, 6, 7, 2, 1, 0] rfl) h
        refine lv_iload hx hb dX1_back_153 (lv_at hl 0 rfl) ?_
        exact h_iret Z hS dX1_back_155 h
      · have h := if_t h c7
        refine lv_iconst (v := (-1 : Int32)) hx hb dX1_back_34 (by decide) ?_
        exact h_iret Z hS dX1_back_35 h
end
theorem dX1_barred_0 : decode cX1_barred 0 = .ok (.aload_n 0, 1) := by decide +kernel
theorem dX1_barred_1 : decode cX1_barred 1 = .ok (.iload_n 1, 1) := by decide +kernel
theorem dX1_barred_2 : decode cX1_barred 2 = .ok (.iload_n 2, 1) := by decide +kernel
theorem dX1_barred_3 : decode cX1_barred 3 = .ok (.invokevirtual 167, 3) := by decide +kernel
theorem dX1_barred_6 : decode cX1_barred 6 = .ok (.ifCond .eq 17, 3) := by decide +kernel
theorem dX1_barred_9 : decode cX1_barred 9 = .ok (.iload_n 3, 1) := by decide +kernel
theorem dX1_barred_10 : decode cX1_barred 10 = .ok (.i2l, 1) := by decide +kernel
theorem dX1_barred_11 : decode cX1_barred 11 = .ok (.lconst 0, 1) := by decide +kernel
theorem dX1_barred_12 : decode cX1_barred 12 = .ok (.aload_n 0, 1) := by decide +kernel
theorem dX1_barred_13 : decode cX1_barred 13 = .ok (.getfield 299, 3) := by decide +kernel
theorem dX1_barred_16 : decode cX1_barred 16 = .ok (.i2l, 1) := by decide +kernel
theorem dX1_barred_17 : decode cX1_barred 17 = .ok (.invokestatic 5, 3) := by decide +kernel
theorem dX1_barred_20 : decode cX1_barred 20 = .ok (.ifCond .ne 5, 3) := by decide +kernel
theorem dX1_barred_23 : decode cX1_barred 23 = .ok (.iconst (-1), 1) := by decide +kernel
theorem dX1_barred_24 : decode cX1_barred 24 = .ok (.ireturn, 1) := by decide +kernel
theorem dX1_barred_25 : decode cX1_barred 25 = .ok (.iconst 0, 1) := by decide +kernel
theorem dX1_barred_26 : decode cX1_barred 26 = .ok (.istore 4, 2) := by decide +kernel
theorem dX1_barred_28 : decode cX1_barred 28 = .ok (.iload 4, 2) := by decide +kernel
theorem dX1_barred_30 : decode cX1_barred 30 = .ok (.aload_n 0, 1) := by decide +kernel
theorem dX1_barred_31 : decode cX1_barred 31 = .ok (.getfield 412, 3) := by decide +kernel
theorem dX1_barred_34 : decode cX1_barred 34 = .ok (.if_icmp .ge 110, 3) := by decide +kernel
theorem dX1_barred_37 : decode cX1_barred 37 = .ok (.aload_n 0, 1) := by decide +kernel
theorem dX1_barred_38 : decode cX1_barred 38 = .ok (.getfield 108, 3) := by decide +kernel
theorem dX1_barred_41 : decode cX1_barred 41 = .ok (.iload 4, 2) := by decide +kernel
theorem dX1_barred_43 : decode cX1_barred 43 = .ok (.iaload, 1) := by decide +kernel
theorem dX1_barred_44 : decode cX1_barred 44 = .ok (.iload_n 1, 1) := by decide +kernel
theorem dX1_barred_45 : decode cX1_barred 45 = .ok (.if_icmp .ne 93, 3) := by decide +kernel
theorem dX1_barred_48 : decode cX1_barred 48 = .ok (.aload_n 0, 1) := by decide +kernel
theorem dX1_barred_49 : decode cX1_barred 49 = .ok (.getfield 111, 3) := by decide +kernel
theorem dX1_barred_52 : decode cX1_barred 52 = .ok (.iload 4, 2) := by decide +kernel
theorem dX1_barred_54 : decode cX1_barred 54 = .ok (.iaload, 1) := by decide +kernel
theorem dX1_barred_55 : decode cX1_barred 55 = .ok (.iload_n 2, 1) := by decide +kernel
theorem dX1_barred_56 : decode cX1_barred 56 = .ok (.if_icmp .ne 82, 3) := by decide +kernel
theorem dX1_barred_59 : decode cX1_barred 59 = .ok (.aload_n 0, 1) := by decide +kernel
theorem dX1_barred_60 : decode cX1_barred 60 = .ok (.getfield 120, 3) := by decide +kernel
theorem dX1_barred_63 : decode cX1_barred 63 = .ok (.iload 4, 2) := by decide +kernel
theorem dX1_barred_65 : decode cX1_barred 65 = .ok (.iaload, 1) := by decide +kernel
theorem dX1_barred_66 : decode cX1_barred 66 = .ok (.iload_n 3, 1) := by decide +kernel
theorem dX1_barred_67 : decode cX1_barred 67 = .ok (.if_icmp .le 6, 3) := by decide +kernel
theorem dX1_barred_70 : decode cX1_barred 70 = .ok (.goto 68, 3) := by decide +kernel
theorem dX1_barred_73 : decode cX1_barred 73 = .ok (.iconst 0, 1) := by decide +kernel
theorem dX1_barred_74 : decode cX1_barred 74 = .ok (.istore 5, 2) := by decide +kernel
theorem dX1_barred_76 : decode cX1_barred 76 = .ok (.iconst 1, 1) := by decide +kernel
theorem dX1_barred_77 : decode cX1_barred 77 = .ok (.istore 6, 2) := by decide +kernel
theorem dX1_barred_79 : decode cX1_barred 79 = .ok (.iload 6, 2) := by decide +kernel
theorem dX1_barred_81 : decode cX1_barred 81 = .ok (.aload_n 0, 1) := by decide +kernel
theorem dX1_barred_82 : decode cX1_barred 82 = .ok (.getfield 24, 3) := by decide +kernel
theorem dX1_barred_85 : decode cX1_barred 85 = .ok (.iload_n 1, 1) := by decide +kernel
theorem dX1_barred_86 : decode cX1_barred 86 = .ok (.aaload, 1) := by decide +kernel
theorem dX1_barred_87 : decode cX1_barred 87 = .ok (.getfield 156, 3) := by decide +kernel
theorem dX1_barred_90 : decode cX1_barred 90 = .ok (.iload_n 2, 1) := by decide +kernel
theorem dX1_barred_91 : decode cX1_barred 91 = .ok (.aaload, 1) := by decide +kernel
theorem dX1_barred_92 : decode cX1_barred 92 = .ok (.getfield 171, 3) := by decide +kernel
theorem dX1_barred_95 : decode cX1_barred 95 = .ok (.if_icmp .gt 35, 3) := by decide +kernel
theorem dX1_barred_98 : decode cX1_barred 98 = .ok (.iload 5, 2) := by decide +kernel
theorem dX1_barred_100 : decode cX1_barred 100 = .ok (.ifCond .ne 17, 3) := by decide +kernel
theorem dX1_barred_103 : decode cX1_barred 103 = .ok (.aload_n 0, 1) := by decide +kernel
theorem dX1_barred_104 : decode cX1_barred 104 = .ok (.iload_n 1, 1) := by decide +kernel
theorem dX1_barred_105 : decode cX1_barred 105 = .ok (.iload_n 2, 1) := by decide +kernel
theorem dX1_barred_106 : decode cX1_barred 106 = .ok (.iload_n 3, 1) := by decide +kernel
theorem dX1_barred_107 : decode cX1_barred 107 = .ok (.iload 6, 2) := by decide +kernel
theorem dX1_barred_109 : decode cX1_barred 109 = .ok (.iload 4, 2) := by decide +kernel
theorem dX1_barred_111 : decode cX1_barred 111 = .ok (.invokevirtual 418, 3) := by decide +kernel
theorem dX1_barred_114 : decode cX1_barred 114 = .ok (.ifCond .eq 7, 3) := by decide +kernel
theorem dX1_barred_117 : decode cX1_barred 117 = .ok (.iconst 1, 1) := by decide +kernel
theorem dX1_barred_118 : decode cX1_barred 118 = .ok (.goto 4, 3) := by decide +kernel
theorem dX1_barred_121 : decode cX1_barred 121 = .ok (.iconst 0, 1) := by decide +kernel
theorem dX1_barred_122 : decode cX1_barred 122 = .ok (.istore 5, 2) := by decide +kernel
theorem dX1_barred_124 : decode cX1_barred 124 = .ok (.iinc 6 1, 3) := by decide +kernel
theorem dX1_barred_127 : decode cX1_barred 127 = .ok (.goto (-48), 3) := by decide +kernel
theorem dX1_barred_130 : decode cX1_barred 130 = .ok (.iload 5, 2) := by decide +kernel
theorem dX1_barred_132 : decode cX1_barred 132 = .ok (.ifCond .ne 6, 3) := by decide +kernel
theorem dX1_barred_135 : decode cX1_barred 135 = .ok (.iload 4, 2) := by decide +kernel
theorem dX1_barred_137 : decode cX1_barred 137 = .ok (.ireturn, 1) := by decide +kernel
theorem dX1_barred_138 : decode cX1_barred 138 = .ok (.iinc 4 1, 3) := by decide +kernel
theorem dX1_barred_141 : decode cX1_barred 141 = .ok (.goto (-113), 3) := by decide +kernel
theorem dX1_barred_144 : decode cX1_barred 144 = .ok (.iconst (-1), 1) := by decide +kernel
theorem dX1_barred_145 : decode cX1_barred 145 = .ok (.ireturn, 1) := by decide +kernel
abbrev rm_X1_barred : Room := k2_rm 3 60
section
variable {p : Program} {l : Launch} {e : Env} {s : State} {m : MethodId} {args : Array Value} {below : List Frame} {meth : Method} {c : Code} {D : gD} {A : Nat → Prop} {ad : Nat → Nat} {S : Nat → Nat × Nat} {σ : Mem}
set_option maxRecDepth 100000 in
set_option maxHeartbeats 4000000 in
theorem w_X1_barred_L79 (Z : Cz D (Ew D A) A cX1_barred 7 (some .int) RX1 p s m args meth c) {u1 : Int32} {u2 : Int32} {u3 : Int32} {u4 : Int32} (hu0 : S 0 = (10, 0)) {r : Int32} {k130 : Int32 → Option Int32}
    (hk130 : ∀ (w5 : Int32) (H : Heap) (locs : List Loc) (ls : Array Slot), St D A ad S σ s.heap H locs → lv_has ls 7 [(0, .ref (ad 0)), (1, .int u1), (2, .int u2), (3, .int u3), (4, .int u4), (5, .int w5)] → k130 w5 = some r → W p l e rm_X1_barred s m args below meth c H locs 0 0 (MQ below (QG D A ad S (some (.int r)) σ) args s 0 0 A) (F0 m 130 ls [])) :
    ∀ (n : Nat) (v5 : Int32) (v6 : Int32) (H : Heap) (locs : List Loc) (ls : Array Slot), St D A ad S σ s.heap H locs → lv_has ls 7 [(0, .ref (ad 0)), (1, .int u1), (2, .int u2), (3, .int u3), (4, .int u4), (5, .int v5), (6, .int v6)] → f_X1_barred_L79 k130 σ u1 u2 u3 u4 n v5 v6 = some r → W p l e rm_X1_barred s m args below meth c H locs 0 0 (MQ below (QG D A ad S (some (.int r)) σ) args s 0 0 A) (F0 m 79 ls []) := by
  have hx := Z.1
  have hb := Z.2.1
  have hown := Z.2.2.2.2.2.1
  have hts := Z.2.2.2.2.2.2.1
  intro n
  induction n with
  | zero => intro v5 v6 H locs ls hS hl h; cases h
  | succ n ih =>
    intro v5 v6 H locs ls hS hl h
    unfold f_X1_barred_L79 at h
    refine lv_iload hx hb dX1_barred_79 (lv_at hl 6 rfl) ?_
    refine lv_aload_n hx hb dX1_barred_81 rfl (lv_at hl 0 rfl) ?_
    refine h_getC (n := 3) (j := 3) (sh := (5, 8)) Z hS cls_0 hu0 (by decide) rfl rfl rfl fl_X1_24_0 dX1_barred_82 (fun hc17 => ?_)
    refine lv_iload_n hx hb dX1_barred_85 rfl (lv_at hl 1 rfl) ?_
    refine h_aldN (sh := (12, 0)) Z hS hc17 (by decide) (by decide) rfl dX1_barred_86 h (fun j18 hj18 h => ?_)
    refine h_getC (n := 1) (j := (j18 + 1)) (sh := (6, 10)) Z hS cls_2 hj18 (by decide) rfl rfl rfl fl_X1_156_2 dX1_barred_87 (fun hc19 => ?_)
    refine lv_iload_n hx hb dX1_barred_90 rfl (lv_at hl 2 rfl) ?_
    refine h_aldN (sh := (14, 0)) Z hS hc19 (by decide) (by decide) rfl dX1_barred_91 h (fun j20 hj20 h => ?_)
    refine h_getI Z hS cls_4 hj20 (by decide) rfl fl_X1_171_4 dX1_barred_92 h (fun x21 h => ?_)
    refine lv_icmp_gt (tgt := 130) hx hb dX1_barred_95 (by decide) (fun c22 => ?_) (fun c22 => ?_)
    · have h := if_t h c22
      exact hk130 _ _ _ _ hS (lv_sub hl [0, 1, 2, 3, 4, 5] rfl) h
    · have h := if_f h c22
      refine lv_iload hx hb dX1_barred_98 (lv_at hl 5 rfl) ?_
      refine lv_if_ne (tgt := 117) hx hb dX1_barred_100 (by decide) (fun c23 => ?_) (fun c23 => ?_)
      · have h := if_f h c23
        refine lv_iconst (v := (1 : Int32)) hx hb dX1_barred_117 (by decide) ?_
        refine lv_goto (tgt := 122) hx hb dX1_barred_118 (by decide) ?_
        refine lv_istore (lv' := [(5, .int (1 : Int32)), (0, .ref (ad 0)), (1, .int u1), (2, .int u2), (3, .int u3), (4, .int u4), (6, .int v6)]) hx hb dX1_barred_122 hl (by decide) rfl (fun ls hl => ?_)
        refine lv_iinc (v := (v6 + (1 : Int32))) (lv' := [(6, .int (v6 + (1 : Int32))), (5, .int (1 : Int32)), (0, .ref (ad 0)), (1, .int u1), (2, .int u2), (3, .int u3), (4, .int u4)]) hx hb dX1_barred_124 hl (k := 6) rfl rfl (by decide) rfl (fun ls hl => ?_)
        refine lv_goto (tgt := 79) hx hb dX1_barred_127 (by decide) ?_
        exact ih _ _ _ _ _ hS (lv_sub hl [2, 3, 4, 5, 6, 1, 0] rfl) h
      · have h := if_t h c23
        refine lv_aload_n hx hb dX1_barred_103 rfl (lv_at hl 0 rfl) ?_
        refine lv_iload_n hx hb dX1_barred_104 rfl (lv_at hl 1 rfl) ?_
        refine lv_iload_n hx hb dX1_barred_105 rfl (lv_at hl 2 rfl) ?_
        refine lv_iload_n hx hb dX1_barred_106 rfl (lv_at hl 3 rfl) ?_
        refine lv_iload hx hb dX1_barred_107 (lv_at hl 6 rfl) ?_
        refine lv_iload hx hb dX1_barred_109 (lv_at hl 4 rfl) ?_
        refine h_ci hS h (fun z hz => h_rV (rest := []) Z hS hu0 rfl v_X1_418 (w_X1_goes_2 hu0 hz) rfl rfl ⟨by decide, by decide⟩ rfl hl.1 rfl (Nat.le_of_ble_eq_true rfl) (Nat.zero_le _) (Nat.zero_le _) dX1_barred_111) (fun x24 H locs hS h => ?_)
        refine lv_if_eq (tgt := 121) hx hb dX1_barred_114 (by decide) (fun c25 => ?_) (fun c25 => ?_)
        · have h := if_t h c25
          refine lv_iconst (v := (0 : Int32)) hx hb dX1_barred_121 (by decide) ?_
          refine lv_istore (lv' := [(5, .int (0 : Int32)), (0, .ref (ad 0)), (1, .int u1), (2, .int u2), (3, .int u3), (4, .int u4), (6, .int v6)]) hx hb dX1_barred_122 hl (by decide) rfl (fun ls hl => ?_)
          refine lv_iinc (v := (v6 + (1 : Int32))) (lv' := [(6, .int (v6 + (1 : Int32))), (5, .int (0 : Int32)), (0, .ref (ad 0)), (1, .int u1), (2, .int u2), (3, .int u3), (4, .int u4)]) hx hb dX1_barred_124 hl (k := 6) rfl rfl (by decide) rfl (fun ls hl => ?_)
          refine lv_goto (tgt := 79) hx hb dX1_barred_127 (by decide) ?_
          exact ih _ _ _ _ _ hS (lv_sub hl [2, 3, 4, 5, 6, 1, 0] rfl) h
        · have h := if_f h c25
          refine lv_iconst (v := (1 : Int32)) hx hb dX1_barred_117 (by decide) ?_
          refine lv_goto (tgt := 122) hx hb dX1_barred_118 (by decide) ?_
          refine lv_istore (lv' := [(5, .int (1 : Int32)), (0, .ref (ad 0)), (1, .int u1), (2, .int u2), (3, .int u3), (4, .int u4), (6, .int v6)]) hx hb dX1_barred_122 hl (by decide) rfl (fun ls hl => ?_)
          refine lv_iinc (v := (v6 + (1 : Int32))) (lv' := [(6, .int (v6 + (1 : Int32))), (5, .int (1 : Int32)), (0, .ref (ad 0)), (1, .int u1), (2, .int u2), (3, .int u3), (4, .int u4)]) hx hb dX1_barred_124 hl (k := 6) rfl rfl (by decide) rfl (fun ls hl => ?_)
          refine lv_goto (tgt := 79) hx hb dX1_barred_127 (by decide) ?_
          exact ih _ _ _ _ _ hS (lv_sub hl [2, 3, 4, 5, 6, 1, 0] rfl) h
set_option maxRecDepth 100000 in
set_option maxHeartbeats 4000000 in
theorem w_X1_barred_L28 (Z : Cz D (Ew D A) A cX1_barred 7 (some .int) RX1 p s m args meth c) {u1 : Int32} {u2 : Int32} {u3 : Int32} (hu0 : S 0 = (10, 0)) {r : Int32} {k135 : Int32 → Option Int32} {k144 : Option Int32}
    (hk135 : ∀ (w4 : Int32) (H : Heap) (locs : List Loc) (ls : Array Slot), St D A ad S σ s.heap H locs → lv_has ls 7 [(4, .int w4)] → k135 w4 = some r → W p l e rm_X1_barred s m args below meth c H locs 0 0 (MQ below (QG D A ad S (some (.int r)) σ) args s 0 0 A) (F0 m 135 ls []))
    (hk144 : ∀  (H : Heap) (locs : List Loc) (ls : Array Slot), St D A ad S σ s.heap H locs → lv_has ls 7 [] → k144 = some r → W p l e rm_X1_barred s m args below meth c H locs 0 0 (MQ below (QG D A ad S (some (.int r)) σ) args s 0 0 A) (F0 m 144 ls [])) :
    ∀ (n : Nat) (v4 : Int32) (H : Heap) (locs : List Loc) (ls : Array Slot), St D A ad S σ s.heap H locs → lv_has ls 7 [(0, .ref (ad 0)), (1, .int u1), (2, .int u2), (3, .int u3), (4, .int v4)] → f_X1_barred_L28 k135 k144 σ u1 u2 u3 n v4 = some r → W p l e rm_X1_barred s m args below meth c H locs 0 0 (MQ below (QG D A ad S (some (.int r)) σ) args s 0 0 A) (F0 m 28 ls []) := by
  have hx := Z.1
  have hb := Z.2.1
  have hown := Z.2.2.2.2.2.1
  have hts := Z.2.2.2.2.2.2.1
  intro n
  induction n with
  | zero => intro v4 H locs ls hS hl h; cases h
  | succ n ih =>
    intro v4 H locs ls hS hl h
    unfold f_X1_barred_L28 at h
    refine lv_iload hx hb dX1_barred_28 (lv_at hl 4 rfl) ?_
    refine lv_aload_n hx hb dX1_barred_30 rfl (lv_at hl 0 rfl) ?_
    refine h_getI Z hS cls_0 hu0 (by decide) rfl fl_X1_412_0 dX1_barred_31 h (fun x6 h => ?_)
    refine lv_icmp_ge (tgt := 144) hx hb dX1_barred_34 (by decide) (fun c7 => ?_) (fun c7 => ?_)
    · have h := if_t h c7
      exact hk144  _ _ _ hS (lv_sub hl [] rfl) h
    · have h := if_f h c7
      refine lv_aload_n hx hb dX1_barred_37 rfl (lv_at hl 0 rfl) ?_
      refine h_getC (n := 34) (j := 34) (sh := (1, 100)) Z hS cls_0 hu0 (by decide) rfl rfl rfl fl_X1_108_0 dX1_barred_38 (fun hc8 => ?_)
      refine lv_iload hx hb dX1_barred_41 (lv_at hl 4 rfl) ?_
      refine h_iald Z hS hc8 dX1_barred_43 h (fun x9 h => ?_)
      refine lv_iload_n hx hb dX1_barred_44 rfl (lv_at hl 1 rfl) ?_
      refine lv_icmp_ne (tgt := 138) hx hb dX1_barred_45 (by decide) (fun c10 => ?_) (fun c10 => ?_)
      · have h := if_f h c10
        refine lv_iinc (v := (v4 + (1 : Int32))) (lv' := [(4, .int (v4 + (1 : Int32))), (0, .ref (ad 0)), (1, .int u1), (2, .int u2), (3, .int u3)]) hx hb dX1_barred_138 hl (k := 4) rfl rfl (by decide) rfl (fun ls hl => ?_)
        refine lv_goto (tgt := 28) hx hb dX1_barred_141 (by decide) ?_
        exact ih _ _ _ _ hS (lv_sub hl [1, 2, 3, 4, 0] rfl) h
      · have h := if_t h c10
        refine lv_aload_n hx hb dX1_barred_48 rfl (lv_at hl 0 rfl) ?_
        refine h_getC (n := 35) (j := 35) (sh := (1, 100)) Z hS cls_0 hu0 (by decide) rfl rfl rfl fl_X1_111_0 dX1_barred_49 (fun hc11 => ?_)
        refine lv_iload hx hb dX1_barred_52 (lv_at hl 4 rfl) ?_
        refine h_iald Z hS hc11 dX1_barred_54 h (fun x12 h => ?_)
        refine lv_iload_n hx hb dX1_barred_55 rfl (lv_at hl 2 rfl) ?_
        refine lv_icmp_ne (tgt := 138) hx hb dX1_barred_56 (by decide) (fun c13 => ?_) (fun c13 => ?_)
        · have h := if_f h c13
          refine lv_iinc (v := (v4 + (1 : Int32))) (lv' := [(4, .int (v4 + (1 : Int32))), (0, .ref (ad 0)), (1, .int u1), (2, .int u2), (3, .int u3)]) hx hb dX1_barred_138 hl (k := 4) rfl rfl (by decide) rfl (fun ls hl => ?_)
          refine lv_goto (tgt := 28) hx hb dX1_barred_141 (by decide) ?_
          exact ih _ _ _ _ hS (lv_sub hl [1, 2, 3, 4, 0] rfl) h
        · have h := if_t h c13
          refine lv_aload_n hx hb dX1_barred_59 rfl (lv_at hl 0 rfl) ?_
          refine h_getC (n := 38) (j := 38) (sh := (1, 100)) Z hS cls_0 hu0 (by decide) rfl rfl rfl fl_X1_120_0 dX1_barred_60 (fun hc14 => ?_)
          refine lv_iload hx hb dX1_barred_63 (lv_at hl 4 rfl) ?_
          refine h_iald Z hS hc14 dX1_barred_65 h (fun x15 h => ?_)
          refine lv_iload_n hx hb dX1_barred_66 rfl (lv_at hl 3 rfl) ?_
          refine lv_icmp_le (tgt := 73) hx hb dX1_barred_67 (by decide) (fun c16 => ?_) (fun c16 => ?_)
          · have h := if_t h c16
            refine lv_iconst (v := (0 : Int32)) hx hb dX1_barred_73 (by decide) ?_
            refine lv_istore (lv' := [(5, .int (0 : Int32)), (0, .ref (ad 0)), (1, .int u1), (2, .int u2), (3, .int u3), (4, .int v4)]) hx hb dX1_barred_74 hl (by decide) rfl (fun ls hl => ?_)
            refine lv_iconst (v := (1 : Int32)) hx hb dX1_barred_76 (by decide) ?_
            refine lv_istore (lv' := [(6, .int (1 : Int32)), (5, .int (0 : Int32)), (0, .ref (ad 0)), (1, .int u1), (2, .int u2), (3, .int u3), (4, .int v4)]) hx hb dX1_barred_77 hl (by decide) rfl (fun ls hl => ?_)
            refine w_X1_barred_L79 Z hu0 (fun x26 H locs ls hS hl h => ?_) FU _ _ _ _ _ hS (lv_sub hl [2, 3, 4, 5, 6, 1, 0] rfl) h
            refine lv_iload hx hb dX1_barred_130 (lv_at hl 5 rfl) ?_
            refine lv_if_ne (tgt := 138) hx hb dX1_barred_132 (by decide) (fun c27 => ?_) (fun c27 => ?_)
            · have h := if_f h c27
              refine lv_iinc (v := (v4 + (1 : Int32))) (lv' := [(4, .int (v4 + (1 : Int32))), (0, .ref (ad 0)), (1, .int u1), (2, .int u2), (3, .int u3), (5, .int x26)]) hx hb dX1_barred_138 hl (k := 4) rfl rfl (by decide) rfl (fun ls hl => ?_)
              refine lv_goto (tgt := 28) hx hb dX1_barred_141 (by decide) ?_
              exact ih _ _ _ _ hS (lv_sub hl [1, 2, 3, 4, 0] rfl) h
            · have h := if_t h c27
              exact hk135 _ _ _ _ hS (lv_sub hl [4] rfl) h
          · have h := if_f h c16
            refine lv_goto (tgt := 138) hx hb dX1_barred_70 (by decide) ?_
            refine lv_iinc (v := (v4 + (1 : Int32))) (lv' := [(4, .int (v4 + (1 : Int32))), (0, .ref (ad 0)), (1, .int u1), (2, .int u2), (3, .int u3)]) hx hb dX1_barred_138 hl (k := 4) rfl rfl (by decide) rfl (fun ls hl => ?_)
            refine lv_goto (tgt := 28) hx hb dX1_barred_141 (by decide) ?_
            exact ih _ _ _ _ hS (lv_sub hl [1, 2, 3, 4, 0] rfl) h
set_option maxRecDepth 100000 in
set_option maxHeartbeats 4000000 in
theorem w_X1_barred {a1 : Int32} {a2 : Int32} {a3 : Int32} (hi0 : S 0 = (10, 0)) {r : Int32} (h : f_X1_barred σ a1 a2 a3 = some r) : Met l yX1_barred (ws_ yX1_barred cX1_barred 7 (some .int)) rm_X1_barred (va_Pc [.ref (ad 0), .int a1, .int a2, .int a3] (PreG D (Ew D A) A ad S σ)) (QG D A ad S (some (.int r)) σ) 0 0 A := by
  refine y_met (by decide) (Nat.le_of_ble_eq_true rfl) (fun p e s m below meth c ls Z hS hl => ?_)
  have hx := Z.1
  have hb := Z.2.1
  have hown := Z.2.2.2.2.2.1
  have hts := Z.2.2.2.2.2.2.1
  unfold f_X1_barred at h
  refine lv_aload_n hx hb dX1_barred_0 rfl (lv_at hl 0 rfl) ?_
  refine lv_iload_n hx hb dX1_barred_1 rfl (lv_at hl 1 rfl) ?_
  refine lv_iload_n hx hb dX1_barred_2 rfl (lv_at hl 2 rfl) ?_
  refine h_ci hS h (fun z hz => h_rV (rest := []) Z hS hi0 rfl v_X1_167 (w_X1_isCell hi0 hz) rfl rfl ⟨by decide, by decide⟩ rfl hl.1 rfl (Nat.le_of_ble_eq_true rfl) (Nat.zero_le _) (Nat.zero_le _) dX1_barred_3) (fun x1 H locs hS h => ?_)
  refine lv_if_eq (tgt := 23) hx hb dX1_barred_6 (by decide) (fun c2 => ?_) (fun c2 => ?_)
  · have h := if_t h c2
    refine lv_iconst (v := (-1 : Int32)) hx hb dX1_barred_23 (by decide) ?_
    exact h_iret Z hS dX1_barred_24 h
  · have h := if_f h c2
    refine lv_iload_n hx hb dX1_barred_9 rfl (lv_at hl 3 rfl) ?_
    refine lv_i2l hx hb dX1_barred_10 rfl ?_
    refine lv_lconst (v := (0 : Int64)) hx hb dX1_barred_11 (by decide) ?_
    refine lv_aload_n hx hb dX1_barred_12 rfl (lv_at hl 0 rfl) ?_
    refine h_getI Z hS cls_0 hi0 (by decide) rfl fl_X1_299_0 dX1_barred_13 h (fun x3 h => ?_)
    refine lv_i2l hx hb dX1_barred_16 rfl ?_
    refine h_ci hS h (fun z hz => h_rS (rest := []) Z hS v_X1_5 (w_X1_isIn hz) rfl rfl ⟨by decide, by decide⟩ rfl hl.1 rfl (Nat.le_of_ble_eq_true rfl) (Nat.zero_le _) (Nat.zero_le _) dX1_barred_17) (fun x4 H locs hS h => ?_)
    refine lv_if_ne (tgt := 25) hx hb dX1_barred_20 (by decide) (fun c5 => ?_) (fun c5 => ?_)
    · have h := if_f h c5
      refine lv_iconst (v := (0 : Int32)) hx hb dX1_barred_25 (by decide) ?_
      refine lv_istore (lv' := [(4, .int (0 : Int32)), (0, .ref (ad 0)), (1, .int a1), (2, .int a2), (3, .int a3)]) hx hb dX1_barred_26 hl (by decide) rfl (fun ls hl => ?_)
      refine w_X1_barred_L28 Z hi0 (fun x28 H locs ls hS hl h => ?_) (fun  H locs ls hS hl h => ?_) FU _ _ _ _ hS (lv_sub hl [1, 2, 3, 4, 0] rfl) h
      · refine lv_iload hx hb dX1_barred_135 (lv_at hl 0 rfl) ?_
        exact h_iret Z hS dX1_barred_137 h
      · refine lv_iconst (v := (-1 : Int32)) hx hb dX1_barred_144 (by decide) ?_
        exact h_iret Z hS dX1_barred_145 h
    · have h := if_t h c5
      refine lv_iconst (v := (-1 : Int32)) hx hb dX1_barred_23 (by decide) ?_
      exact h_iret Z hS dX1_barred_24 h
end
