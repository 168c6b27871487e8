set_option maxRecDepth 100000
abbrev rm_X4_of_3 : Room := k2_rm 0 0
section
variable {p : Program} {l : Launch} {e : Env} {s : State} {m : MethodId} {args : Array Value} {below : List Frame} {meth : Method} {c : Code} {D : gD} {A : Nat → Prop} {ad : Nat → Nat} {S : Nat → Nat × Nat} {σ : Mem}
set_option maxRecDepth 100000 in
set_option maxHeartbeats 4000000 in
theorem w_X4_of_3 {i0 : Nat} {a1 : Int32} (hi0 : S i0 = (13, 0)) {r : Int32} (h : f_X4_of σ i0 a1 = some r) : Met l yX4_of (ws_ yX4_of cX4_of 2 (some .int)) rm_X4_of_3 (va_Pc [.ref (ad i0), .int a1] (PreG D (Ew D A) A ad S σ)) (QG D A ad S (some (.int r)) σ) 0 0 A := by
  refine y_met (by decide) (Nat.le_of_ble_eq_true rfl) (fun p e s m below meth c ls Z hS hl => ?_)
  have hx := Z.1
  have hb := Z.2.1
  have hown := Z.2.2.2.2.2.1
  have hts := Z.2.2.2.2.2.2.1
  unfold f_X4_of at h
  refine lv_aload_n hx hb dX4_of_0 rfl (lv_at hl 0 rfl) ?_
  refine h_getC (n := 1) (j := (i0 + 1)) (sh := (1, 8)) Z hS cls_3 hi0 (by decide) rfl rfl rfl fl_X4_9_3 dX4_of_1 (fun hc1 => ?_)
  refine lv_iload_n hx hb dX4_of_4 rfl (lv_at hl 1 rfl) ?_
  refine h_iald Z hS hc1 dX4_of_5 h (fun x2 h => ?_)
  exact h_iret Z hS dX4_of_6 h
end
abbrev rm_X19_all_3 : Room := k2_rm 1 21
section
variable {p : Program} {l : Launch} {e : Env} {s : State} {m : MethodId} {args : Array Value} {below : List Frame} {meth : Method} {c : Code} {D : gD} {A : Nat → Prop} {ad : Nat → Nat} {S : Nat → Nat × Nat} {σ : Mem}
set_option maxRecDepth 100000 in
set_option maxHeartbeats 4000000 in
theorem w_X19_all_3_L4 (Z : Cz D (Ew D A) A cX19_all 3 (some .int) RX19 p s m args meth c) {u0 : Nat} (hu0 : S u0 = (13, 0)) {r : Int32} {k26 : Int32 → Option Int32}
    (hk26 : ∀ (w1 : Int32) (H : Heap) (locs : List Loc) (ls : Array Slot), St D A ad S σ s.heap H locs → lv_has ls 3 [(1, .int w1)] → k26 w1 = some r → W p l e rm_X19_all_3 s m args below meth c H locs 0 0 (MQ below (QG D A ad S (some (.int r)) σ) args s 0 0 A) (F0 m 26 ls [])) :
    ∀ (n : Nat) (v1 : Int32) (v2 : Int32) (H : Heap) (locs : List Loc) (ls : Array Slot), St D A ad S σ s.heap H locs → lv_has ls 3 [(0, .ref (ad u0)), (1, .int v1), (2, .int v2)] → f_X19_all_L4 k26 σ u0 n v1 v2 = some r → W p l e rm_X19_all_3 s m args below meth c H locs 0 0 (MQ below (QG D A ad S (some (.int r)) σ) args s 0 0 A) (F0 m 4 ls []) := by
  have hx := Z.1
  have hb := Z.2.1
  have hown := Z.2.2.2.2.2.1
  have hts := Z.2.2.2.2.2.2.1
  intro n
  induction n with
  | zero => intro v1 v2 H locs ls hS hl h; cases h
  | succ n ih =>
    intro v1 v2 H locs ls hS hl h
    unfold f_X19_all_L4 at h
    refine lv_iload_n hx hb dX19_all_4 rfl (lv_at hl 2 rfl) ?_
    refine lv_bipush (v := (8 : Int32)) hx hb dX19_all_5 (by decide) ?_
    refine lv_icmp_ge (tgt := 26) hx hb dX19_all_7 (by decide) (fun c1 => ?_) (fun c1 => ?_)
    · have h := if_t h c1
      exact hk26 _ _ _ _ hS (lv_sub hl [1] rfl) h
    · have h := if_f h c1
      refine lv_iload_n hx hb dX19_all_10 rfl (lv_at hl 1 rfl) ?_
      refine lv_aload_n hx hb dX19_all_11 rfl (lv_at hl 0 rfl) ?_
      refine lv_iload_n hx hb dX19_all_12 rfl (lv_at hl 2 rfl) ?_
      refine h_ci5 hS h (fun z hz => h_rF (rest := [.int v1]) Z hS hu0 rfl vi_X19_3_3 (w_X4_of_3 hu0 hz) rfl rfl ⟨by decide, by decide⟩ rfl hl.1 rfl (Nat.le_of_ble_eq_true rfl) (Nat.zero_le _) (Nat.zero_le _) dX19_all_13) (fun x2 H locs hS h => ?_)
      refine lv_iadd hx hb dX19_all_18 ?_
      refine h_leti h (fun x3 h => ?_)
      refine lv_istore_n (lv' := [(1, .int x3), (0, .ref (ad u0)), (2, .int v2)]) hx hb dX19_all_19 rfl hl (by decide) rfl (fun ls hl => ?_)
      refine lv_iinc (v := (v2 + (1 : Int32))) (lv' := [(2, .int (v2 + (1 : Int32))), (1, .int x3), (0, .ref (ad u0))]) hx hb dX19_all_20 hl (k := 2) rfl rfl (by decide) rfl (fun ls hl => ?_)
      refine lv_goto (tgt := 4) hx hb dX19_all_23 (by decide) ?_
      exact ih _ _ _ _ _ hS (lv_sub hl [2, 1, 0] rfl) h
set_option maxRecDepth 100000 in
set_option maxHeartbeats 4000000 in
theorem w_X19_all_3 {i0 : Nat} (hi0 : S i0 = (13, 0)) {r : Int32} (h : f_X19_all σ i0 = some r) : Mg l yX19_all (ws_ yX19_all cX19_all 3 (some .int)) rm_X19_all_3 (va_Pc [.ref (ad i0)] (PreG D (Ew D A) A ad S σ)) (QG0 D A ad S (some (.int r)) σ) A := by
  refine y_metG (by decide) (Nat.le_of_ble_eq_true rfl) (fun p e s m below meth c ls Z hS hl => ?_)
  have hx := Z.1
  have hb := Z.2.1
  have hown := Z.2.2.2.2.2.1
  have hts := Z.2.2.2.2.2.2.1
  unfold f_X19_all at h
  refine lv_iconst (v := (0 : Int32)) hx hb dX19_all_0 (by decide) ?_
  refine lv_istore_n (lv' := [(1, .int (0 : Int32)), (0, .ref (ad i0))]) hx hb dX19_all_1 rfl hl (by decide) rfl (fun ls hl => ?_)
  refine lv_iconst (v := (0 : Int32)) hx hb dX19_all_2 (by decide) ?_
  refine lv_istore_n (lv' := [(2, .int (0 : Int32)), (1, .int (0 : Int32)), (0, .ref (ad i0))]) hx hb dX19_all_3 rfl hl (by decide) rfl (fun ls hl => ?_)
  refine w_X19_all_3_L4 Z hi0 (fun x4 H locs ls hS hl h => ?_) FU _ _ _ _ _ hS (lv_sub hl [2, 1, 0] rfl) h
  refine lv_iload_n hx hb dX19_all_26 rfl (lv_at hl 0 rfl) ?_
  exact h_iret Z hS dX19_all_27 h
end
theorem dX3_isOpen_0 : decode cX3_isOpen 0 = .ok (.iconst 0, 1) := by decide +kernel
theorem dX3_isOpen_1 : decode cX3_isOpen 1 = .ok (.istore_n 1, 1) := by decide +kernel
theorem dX3_isOpen_2 : decode cX3_isOpen 2 = .ok (.iload_n 1, 1) := by decide +kernel
theorem dX3_isOpen_3 : decode cX3_isOpen 3 = .ok (.aload_n 0, 1) := by decide +kernel
theorem dX3_isOpen_4 : decode cX3_isOpen 4 = .ok (.getfield 38, 3) := by decide +kernel
theorem dX3_isOpen_7 : decode cX3_isOpen 7 = .ok (.if_icmp .ge 23, 3) := by decide +kernel
theorem dX3_isOpen_10 : decode cX3_isOpen 10 = .ok (.aload_n 0, 1) := by decide +kernel
theorem dX3_isOpen_11 : decode cX3_isOpen 11 = .ok (.getfield 11, 3) := by decide +kernel
theorem dX3_isOpen_14 : decode cX3_isOpen 14 = .ok (.iload_n 1, 1) := by decide +kernel
theorem dX3_isOpen_15 : decode cX3_isOpen 15 = .ok (.aaload, 1) := by decide +kernel
theorem dX3_isOpen_16 : decode cX3_isOpen 16 = .ok (.invokevirtual 41, 3) := by decide +kernel
theorem dX3_isOpen_19 : decode cX3_isOpen 19 = .ok (.ifCond .ne 5, 3) := by decide +kernel
theorem dX3_isOpen_22 : decode cX3_isOpen 22 = .ok (.iconst 0, 1) := by decide +kernel
theorem dX3_isOpen_23 : decode cX3_isOpen 23 = .ok (.ireturn, 1) := by decide +kernel
theorem dX3_isOpen_24 : decode cX3_isOpen 24 = .ok (.iinc 1 1, 3) := by decide +kernel
theorem dX3_isOpen_27 : decode cX3_isOpen 27 = .ok (.goto (-25), 3) := by decide +kernel
theorem dX3_isOpen_30 : decode cX3_isOpen 30 = .ok (.iconst 1, 1) := by decide +kernel
theorem dX3_isOpen_31 : decode cX3_isOpen 31 = .ok (.ireturn, 1) := by decide +kernel
abbrev rm_X3_isOpen : Room := k2_rm 3 63
section
variable {p : Program} {l : Launch} {e : Env} {s : State} {m : MethodId} {args : Array Value} {below : List Frame} {meth : Method} {c : Code} {D : gD} {A : Nat → Prop} {ad : Nat → Nat} {S : Nat → Nat × Nat} {σ : Mem}
set_option maxRecDepth 100000 in
set_option maxHeartbeats 4000000 in
theorem w_X3_isOpen_L2 (Z : Cz D (Ew D A) A cX3_isOpen 2 (some .boolean) RX3 p s m args meth c) {u0 : Nat} (hu0 : S u0 = (12, 0)) {r : Int32} {k22 : Option Int32} {k30 : Option Int32}
    (hk22 : ∀  (H : Heap) (locs : List Loc) (ls : Array Slot), St D A ad S σ s.heap H locs → lv_has ls 2 [] → k22 = some r → W p l e rm_X3_isOpen s m args below meth c H locs 0 0 (MQ below (QG D A ad S (some (.int r)) σ) args s 0 0 A) (F0 m 22 ls []))
    (hk30 : ∀  (H : Heap) (locs : List Loc) (ls : Array Slot), St D A ad S σ s.heap H locs → lv_has ls 2 [] → k30 = some r → W p l e rm_X3_isOpen s m args below meth c H locs 0 0 (MQ below (QG D A ad S (some (.int r)) σ) args s 0 0 A) (F0 m 30 ls [])) :
    ∀ (n : Nat) (v1 : Int32) (H : Heap) (locs : List Loc) (ls : Array Slot), St D A ad S σ s.heap H locs → lv_has ls 2 [(0, .ref (ad u0)), (1, .int v1)] → f_X3_isOpen_L2 k22 k30 σ u0 n v1 = some r → W p l e rm_X3_isOpen s m args below meth c H locs 0 0 (MQ below (QG D A ad S (some (.int r)) σ) args s 0 0 A) (F0 m 2 ls []) := by
  have hx := Z.1
  have hb := Z.2.1
  have hown := Z.2.2.2.2.2.1
  have hts := Z.2.2.2.2.2.2.1
  intro n
  induction n with
  | zero => intro v1 H locs ls hS hl h; cases h
  | succ n ih =>
    intro v1 H locs ls hS hl h
    unfold f_X3_isOpen_L2 at h
    refine lv_iload_n hx hb dX3_isOpen_2 rfl (lv_at hl 1 rfl) ?_
    refine lv_aload_n hx hb dX3_isOpen_3 rfl (lv_at hl 0 rfl) ?_
    refine h_getI Z hS cls_2 hu0 (by decide) rfl fl_X3_38_2 dX3_isOpen_4 h (fun x1 h => ?_)
    refine lv_icmp_ge (tgt := 30) hx hb dX3_isOpen_7 (by decide) (fun c2 => ?_) (fun c2 => ?_)
    · have h := if_t h c2
      exact hk30  _ _ _ hS (lv_sub hl [] rfl) h
    · have h := if_f h c2
      refine lv_aload_n hx hb dX3_isOpen_10 rfl (lv_at hl 0 rfl) ?_
      refine h_getC (n := 1) (j := (u0 + 1)) (sh := (6, 10)) Z hS cls_2 hu0 (by decide) rfl rfl rfl fl_X3_11_2 dX3_isOpen_11 (fun hc3 => ?_)
      refine lv_iload_n hx hb dX3_isOpen_14 rfl (lv_at hl 1 rfl) ?_
      refine h_aldN (sh := (14, 0)) Z hS hc3 (by decide) (by decide) rfl dX3_isOpen_15 h (fun j4 hj4 h => ?_)
      refine h_ci hS h (fun z hz => h_rV (rest := []) Z hS hj4 rfl v_X3_41 (w_X7_width hj4 hz) rfl rfl ⟨by decide, by decide⟩ rfl hl.1 rfl (Nat.le_of_ble_eq_true rfl) (Nat.zero_le _) (Nat.zero_le _) dX3_isOpen_16) (fun x5 H locs hS h => ?_)
      refine lv_if_ne (tgt := 24) hx hb dX3_isOpen_19 (by decide) (fun c6 => ?_) (fun c6 => ?_)
      · have h := if_f h c6
        refine lv_iinc (v := (v1 + (1 : Int32))) (lv' := [(1, .int (v1 + (1 : Int32))), (0, .ref (ad u0))]) hx hb dX3_isOpen_24 hl (k := 1) rfl rfl (by decide) rfl (fun ls hl => ?_)
        refine lv_goto (tgt := 2) hx hb dX3_isOpen_27 (by decide) ?_
        exact ih _ _ _ _ hS (lv_sub hl [1, 0] rfl) h
      · have h := if_t h c6
        exact hk22  _ _ _ hS (lv_sub hl [] rfl) h
set_option maxRecDepth 100000 in
set_option maxHeartbeats 4000000 in
theorem w_X3_isOpen {i0 : Nat} (hi0 : S i0 = (12, 0)) {r : Int32} (h : f_X3_isOpen σ i0 = some r) : Met l yX3_isOpen (ws_ yX3_isOpen cX3_isOpen 2 (some .boolean)) rm_X3_isOpen (va_Pc [.ref (ad i0)] (PreG D (Ew D A) A ad S σ)) (QG D A ad S (some (.int r)) σ) 0 0 A := by
  refine y_met (by decide) (Nat.le_of_ble_eq_true rfl) (fun p e s m below meth c ls Z hS hl => ?_)
  have hx := Z.1
  have hb := Z.2.1
  have hown := Z.2.2.2.2.2.1
  have hts := Z.2.2.2.2.2.2.1
  unfold f_X3_isOpen at h
  refine lv_iconst (v := (0 : Int32)) hx hb dX3_isOpen_0 (by decide) ?_
  refine lv_istore_n (lv' := [(1, .int (0 : Int32)), (0, .ref (ad i0))]) hx hb dX3_isOpen_1 rfl hl (by decide) rfl (fun ls hl => ?_)
  refine w_X3_isOpen_L2 Z hi0 (fun  H locs ls hS hl h => ?_) (fun  H locs ls hS hl h => ?_) FU _ _ _ _ hS (lv_sub hl [1, 0] rfl) h
  · refine lv_iconst (v := (0 : Int32)) hx hb dX3_isOpen_22 (by decide) ?_
    exact h_zret Z hS dX3_isOpen_23 h
  · refine lv_iconst (v := (1 : Int32)) hx hb dX3_isOpen_30 (by decide) ?_
    exact h_zret Z hS dX3_isOpen_31 h
end
theorem dX3_bed_0 : decode cX3_bed 0 = .ok (.iconst 0, 1) := by decide +kernel
theorem dX3_bed_1 : decode cX3_bed 1 = .ok (.istore_n 1, 1) := by decide +kernel
theorem dX3_bed_2 : decode cX3_bed 2 = .ok (.iconst 0, 1) := by decide +kernel
theorem dX3_bed_3 : decode cX3_bed 3 = .ok (.istore_n 2, 1) := by decide +kernel
theorem dX3_bed_4 : decode cX3_bed 4 = .ok (.iload_n 2, 1) := by decide +kernel
theorem dX3_bed_5 : decode cX3_bed 5 = .ok (.aload_n 0, 1) := by decide +kernel
theorem dX3_bed_6 : decode cX3_bed 6 = .ok (.getfield 38, 3) := by decide +kernel
theorem dX3_bed_9 : decode cX3_bed 9 = .ok (.if_icmp .ge 21, 3) := by decide +kernel
theorem dX3_bed_12 : decode cX3_bed 12 = .ok (.iload_n 1, 1) := by decide +kernel
theorem dX3_bed_13 : decode cX3_bed 13 = .ok (.aload_n 0, 1) := by decide +kernel
theorem dX3_bed_14 : decode cX3_bed 14 = .ok (.getfield 11, 3) := by decide +kernel
theorem dX3_bed_17 : decode cX3_bed 17 = .ok (.iload_n 2, 1) := by decide +kernel
theorem dX3_bed_18 : decode cX3_bed 18 = .ok (.aaload, 1) := by decide +kernel
theorem dX3_bed_19 : decode cX3_bed 19 = .ok (.invokevirtual 45, 3) := by decide +kernel
theorem dX3_bed_22 : decode cX3_bed 22 = .ok (.iadd, 1) := by decide +kernel
theorem dX3_bed_23 : decode cX3_bed 23 = .ok (.istore_n 1, 1) := by decide +kernel
theorem dX3_bed_24 : decode cX3_bed 24 = .ok (.iinc 2 1, 3) := by decide +kernel
theorem dX3_bed_27 : decode cX3_bed 27 = .ok (.goto (-23), 3) := by decide +kernel
theorem dX3_bed_30 : decode cX3_bed 30 = .ok (.iload_n 1, 1) := by decide +kernel
theorem dX3_bed_31 : decode cX3_bed 31 = .ok (.ireturn, 1) := by decide +kernel
abbrev rm_X3_bed : Room := k2_rm 4 83
section
variable {p : Program} {l : Launch} {e : Env} {s : State} {m : MethodId} {args : Array Value} {below : List Frame} {meth : Method} {c : Code} {D : gD} {A : Nat → Prop} {ad : Nat → Nat} {S : Nat → Nat × Nat} {σ : Mem}
set_option maxRecDepth 100000 in
set_option maxHeartbeats 4000000 in
theorem w_X3_bed_L4 (Z : Cz D (Ew D A) A cX3_bed 3 (some .int) RX3 p s m args meth c) {u0 : Nat} (hu0 : S u0 = (12, 0)) {r : Int32} {k30 : Int32 → Option Int32}
    (hk30 : ∀ (w1 : Int32) (H : Heap) (locs : List Loc) (ls : Array Slot), St D A ad S σ s.heap H locs → lv_has ls 3 [(1, .int w1)] → k30 w1 = some r → W p l e rm_X3_bed s m args below meth c H locs 0 0 (MQ below (QG D A ad S (some (.int r)) σ) args s 0 0 A) (F0 m 30 ls [])) :
    ∀ (n : Nat) (v1 : Int32) (v2 : Int32) (H : Heap) (locs : List Loc) (ls : Array Slot), St D A ad S σ s.heap H locs → lv_has ls 3 [(0, .ref (ad u0)), (1, .int v1), (2, .int v2)] → f_X3_bed_L4 k30 σ u0 n v1 v2 = some r → W p l e rm_X3_bed s m args below meth c H locs 0 0 (MQ below (QG D A ad S (some (.int r)) σ) args s 0 0 A) (F0 m 4 ls []) := by
  have hx := Z.1
  have hb := Z.2.1
  have hown := Z.2.2.2.2.2.1
  have hts := Z.2.2.2.2.2.2.1
  intro n
  induction n with
  | zero => intro v1 v2 H locs ls hS hl h; cases h
  | succ n ih =>
    intro v1 v2 H locs ls hS hl h
    unfold f_X3_bed_L4 at h
    refine lv_iload_n hx hb dX3_bed_4 rfl (lv_at hl 2 rfl) ?_
    refine lv_aload_n hx hb dX3_bed_5 rfl (lv_at hl 0 rfl) ?_
    refine h_getI Z hS cls_2 hu0 (by decide) rfl fl_X3_38_2 dX3_bed_6 h (fun x1 h => ?_)
    refine lv_icmp_ge (tgt := 30) hx hb dX3_bed_9 (by decide) (fun c2 => ?_) (fun c2 => ?_)
    · have h := if_t h c2
      exact hk30 _ _ _ _ hS (lv_sub hl [1] rfl) h
    · have h := if_f h c2
      refine lv_iload_n hx hb dX3_bed_12 rfl (lv_at hl 1 rfl) ?_
      refine lv_aload_n hx hb dX3_bed_13 rfl (lv_at hl 0 rfl) ?_
      refine h_getC (n := 1) (j := (u0 + 1)) (sh := (6, 10)) Z hS cls_2 hu0 (by decide) rfl rfl rfl fl_X3_11_2 dX3_bed_14 (fun hc3 => ?_)
      refine lv_iload_n hx hb dX3_bed_17 rfl (lv_at hl 2 rfl) ?_
      refine h_aldN (sh := (14, 0)) Z hS hc3 (by decide) (by decide) rfl dX3_bed_18 h (fun j4 hj4 h => ?_)
      refine h_ci hS h (fun z hz => h_rV (rest := [.int v1]) Z hS hj4 rfl v_X3_45 (w_X7_resist hj4 hz) rfl rfl ⟨by decide, by decide⟩ rfl hl.1 rfl (Nat.le_of_ble_eq_true rfl) (Nat.zero_le _) (Nat.zero_le _) dX3_bed_19) (fun x5 H locs hS h => ?_)
      refine lv_iadd hx hb dX3_bed_22 ?_
      refine h_leti h (fun x6 h => ?_)
      refine lv_istore_n (lv' := [(1, .int x6), (0, .ref (ad u0)), (2, .int v2)]) hx hb dX3_bed_23 rfl hl (by decide) rfl (fun ls hl => ?_)
      refine lv_iinc (v := (v2 + (1 : Int32))) (lv' := [(2, .int (v2 + (1 : Int32))), (1, .int x6), (0, .ref (ad u0))]) hx hb dX3_bed_24 hl (k := 2) rfl rfl (by decide) rfl (fun ls hl => ?_)
      refine lv_goto (tgt := 4) hx hb dX3_bed_27 (by decide) ?_
      exact ih _ _ _ _ _ hS (lv_sub hl [2, 1, 0] rfl) h
set_option maxRecDepth 100000 in
set_option maxHeartbeats 4000000 in
theorem w_X3_bed {i0 : Nat} (hi0 : S i0 = (12, 0)) {r : Int32} (h : f_X3_bed σ i0 = some r) : Met l yX3_bed (ws_ yX3_bed cX3_bed 3 (some .int)) rm_X3_bed (va_Pc [.ref (ad i0)] (PreG D (Ew D A) A ad S σ)) (QG D A ad S (some (.int r)) σ) 0 0 A := by
  refine y_met (by decide) (Nat.le_of_ble_eq_true rfl) (fun p e s m below meth c ls Z hS hl => ?_)
  have hx := Z.1
  have hb := Z.2.1
  have hown := Z.2.2.2.2.2.1
  have hts := Z.2.2.2.2.2.2.1
  unfold f_X3_bed at h
  refine lv_iconst (v := (0 : Int32)) hx hb dX3_bed_0 (by decide) ?_
  refine lv_istore_n (lv' := [(1, .int (0 : Int32)), (0, .ref (ad i0))]) hx hb dX3_bed_1 rfl hl (by decide) rfl (fun ls hl => ?_)
  refine lv_iconst (v := (0 : Int32)) hx hb dX3_bed_2 (by decide) ?_
  refine lv_istore_n (lv' := [(2, .int (0 : Int32)), (1, .int (0 : Int32)), (0, .ref (ad i0))]) hx hb dX3_bed_3 rfl hl (by decide) rfl (fun ls hl => ?_)
  refine w_X3_bed_L4 Z hi0 (fun x7 H locs ls hS hl h => ?_) FU _ _ _ _ _ hS (lv_sub hl [2, 1, 0] rfl) h
  refine lv_iload_n hx hb dX3_bed_30 rfl (lv_at hl 0 rfl) ?_
  exact h_iret Z hS dX3_bed_31 h
end
theorem dX1_told_0 : decode cX1_told 0 = .ok (.aload_n 0, 1) := by decide +kernel
theorem dX1_told_1 : decode cX1_told 1 = .ok (.iload_n 1, 1) := by decide +kernel
theorem dX1_told_2 : decode cX1_told 2 = .ok (.invokevirtual 144, 3) := by decide +kernel
theorem dX1_told_5 : decode cX1_told 5 = .ok (.ifCond .ne 5, 3) := by decide +kernel
theorem dX1_told_8 : decode cX1_told 8 = .ok (.iconst (-1), 1) := by decide +kernel
theorem dX1_told_9 : decode cX1_told 9 = .ok (.ireturn, 1) := by decide +kernel
theorem dX1_told_10 : decode cX1_told 10 = .ok (.aload_n 0, 1) := by decide +kernel
theorem dX1_told_11 : decode cX1_told 11 = .ok (.getfield 24, 3) := by decide +kernel
theorem dX1_told_14 : decode cX1_told 14 = .ok (.iload_n 1, 1) := by decide +kernel
theorem dX1_told_15 : decode cX1_told 15 = .ok (.aaload, 1) := by decide +kernel
theorem dX1_told_16 : decode cX1_told 16 = .ok (.astore_n 3, 1) := by decide +kernel
theorem dX1_told_17 : decode cX1_told 17 = .ok (.iload_n 2, 1) := by decide +kernel
theorem dX1_told_18 : decode cX1_told 18 = .ok (.tableswitch 109 0 8 #[50, 55, 60, 65, 73, 89, 94, 99, 104], 50) := by decide +kernel
theorem dX1_told_68 : decode cX1_told 68 = .ok (.aload_n 3, 1) := by decide +kernel
theorem dX1_told_69 : decode cX1_told 69 = .ok (.getfield 193, 3) := by decide +kernel
theorem dX1_told_72 : decode cX1_told 72 = .ok (.ireturn, 1) := by decide +kernel
theorem dX1_told_73 : decode cX1_told 73 = .ok (.aload_n 3, 1) := by decide +kernel
theorem dX1_told_74 : decode cX1_told 74 = .ok (.getfield 196, 3) := by decide +kernel
theorem dX1_told_77 : decode cX1_told 77 = .ok (.ireturn, 1) := by decide +kernel
theorem dX1_told_78 : decode cX1_told 78 = .ok (.aload_n 3, 1) := by decide +kernel
theorem dX1_told_79 : decode cX1_told 79 = .ok (.getfield 199, 3) := by decide +kernel
theorem dX1_told_82 : decode cX1_told 82 = .ok (.ireturn, 1) := by decide +kernel
theorem dX1_told_83 : decode cX1_told 83 = .ok (.aload_n 3, 1) := by decide +kernel
theorem dX1_told_84 : decode cX1_told 84 = .ok (.getfield 202, 3) := by decide +kernel
theorem dX1_told_87 : decode cX1_told 87 = .ok (.invokevirtual 206, 3) := by decide +kernel
theorem dX1_told_90 : decode cX1_told 90 = .ok (.ireturn, 1) := by decide +kernel
theorem dX1_told_91 : decode cX1_told 91 = .ok (.aload_n 3, 1) := by decide +kernel
theorem dX1_told_92 : decode cX1_told 92 = .ok (.invokevirtual 209, 3) := by decide +kernel
theorem dX1_told_95 : decode cX1_told 95 = .ok (.ifCond .eq 10, 3) := by decide +kernel
theorem dX1_told_98 : decode cX1_told 98 = .ok (.aload_n 3, 1) := by decide +kernel
theorem dX1_told_99 : decode cX1_told 99 = .ok (.invokevirtual 213, 3) := by decide +kernel
theorem dX1_told_102 : decode cX1_told 102 = .ok (.goto 4, 3) := by decide +kernel
theorem dX1_told_105 : decode cX1_told 105 = .ok (.iconst (-1), 1) := by decide +kernel
theorem dX1_told_106 : decode cX1_told 106 = .ok (.ireturn, 1) := by decide +kernel
theorem dX1_told_107 : decode cX1_told 107 = .ok (.aload_n 3, 1) := by decide +kernel
theorem dX1_told_108 : decode cX1_told 108 = .ok (.getfield 147, 3) := by decide +kernel
theorem dX1_told_111 : decode cX1_told 111 = .ok (.ireturn, 1) := by decide +kernel
theorem dX1_told_112 : decode cX1_told 112 = .ok (.aload_n 3, 1) := by decide +kernel
theorem dX1_told_113 : decode cX1_told 113 = .ok (.getfield 216, 3) := by decide +kernel
theorem dX1_told_116 : decode cX1_told 116 = .ok (.ireturn, 1) := by decide +kernel
theorem dX1_told_117 : decode cX1_told 117 = .ok (.aload_n 3, 1) := by decide +kernel
theorem dX1_told_118 : decode cX1_told 118 = .ok (.getfield 219, 3) := by decide +kernel
theorem dX1_told_121 : decode cX1_told 121 = .ok (.ireturn, 1) := by decide +kernel
theorem dX1_told_122 : decode cX1_told 122 = .ok (.aload_n 3, 1) := by decide +kernel
theorem dX1_told_123 : decode cX1_told 123 = .ok (.getfield 222, 3) := by decide +kernel
theorem dX1_told_126 : decode cX1_told 126 = .ok (.ireturn, 1) := by decide +kernel
theorem dX1_told_127 : decode cX1_told 127 = .ok (.iconst (-1), 1) := by decide +kernel
theorem dX1_told_128 : decode cX1_told 128 = .ok (.ireturn, 1) := by decide +kernel
abbrev rm_X1_told : Room := k2_rm 5 105
section
variable {p : Program} {l : Launch} {e : Env} {s : State} {m : MethodId} {args : Array Value} {below : List Frame} {meth : Method} {c : Code} {D : gD} {A : Nat → Prop} {ad : Nat → Nat} {S : Nat → Nat × Nat} {σ : Mem}
set_option maxRecDepth 100000 in
set_option maxHeartbeats 4000000 in
theorem w_X1_told {a1 : Int32} {a2 : Int32} (hi0 : S 0 = (10, 0)) {r : Int32} (h : f_X1_told σ a1 a2 = some r) : Met l yX1_told (ws_ yX1_told cX1_told 4 (some .int)) rm_X1_told (va_Pc [.ref (ad 0), .int a1, .int a2] (PreG D (Ew D A) A ad S σ)) (QG D A ad S (some (.int r)) σ) 0 0 A := by
  refine y_met (by decide) (Nat.le_of_ble_eq_true rfl) (fun p e s m below meth c ls Z hS hl => ?_)
  have hx := Z.1
  have hb := Z.2.1
  have hown := Z.2.2.2.2.2.1
  have hts := Z.2.2.2.2.2.2.1
  unfold f_X1_told at h
  refine lv_aload_n hx hb dX1_told_0 rfl (lv_at hl 0 rfl) ?_
  refine lv_iload_n hx hb dX1_told_1 rfl (lv_at hl 1 rfl) ?_
  refine h_ci hS h (fun z hz => h_rV (rest := []) Z hS hi0 rfl v_X1_144 (w_X1_isFilter hi0 hz) rfl rfl ⟨by decide, by decide⟩ rfl hl.1 rfl (Nat.le_of_ble_eq_true rfl) (Nat.zero_le _) (Nat.zero_le _) dX1_told_2) (fun x1 H locs hS h => ?_)
  refine lv_if_ne (tgt := 10) hx hb dX1_told_5 (by decide) (fun c2 => ?_) (fun c2 => ?_)
  · have h := if_f h c2
    refine lv_aload_n hx hb dX1_told_10 rfl (lv_at hl 0 rfl) ?_
    refine h_getC (n := 3) (j := 3) (sh := (5, 8)) Z hS cls_0 hi0 (by decide) rfl rfl rfl fl_X1_24_0 dX1_told_11 (fun hc3 => ?_)
    refine lv_iload_n hx hb dX1_told_14 rfl (lv_at hl 1 rfl) ?_
    refine h_aldN (sh := (12, 0)) Z hS hc3 (by decide) (by decide) rfl dX1_told_15 h (fun j4 hj4 h => ?_)
    refine lv_astore_n (lv' := [(3, .ref (ad j4)), (0, .ref (ad 0)), (1, .int a1), (2, .int a2)]) hx hb dX1_told_16 rfl hl (by decide) rfl (fun ls hl => ?_)
    refine lv_iload_n hx hb dX1_told_17 rfl (lv_at hl 3 rfl) ?_
    by_cases c5_0 : a2 = (0 : Int32)
    · refine h_tsw (k := (0 : Int32)) (off := 50) (tgt := 68) Z dX1_told_18 c5_0 (by decide) (by decide) rfl (by decide) ?_
      have h := if_t h c5_0
      refine lv_aload_n hx hb dX1_told_68 rfl (lv_at hl 0 rfl) ?_
      refine h_getI Z hS cls_2 hj4 (by decide) rfl fl_X1_193_2 dX1_told_69 h (fun x6 h => ?_)
      exact h_iret Z hS dX1_told_72 h
    replace h := if_f h c5_0
    by_cases c5_1 : a2 = (1 : Int32)
    · refine h_tsw (k := (1 : Int32)) (off := 55) (tgt := 73) Z dX1_told_18 c5_1 (by decide) (by decide) rfl (by decide) ?_
      have h := if_t h c5_1
      refine lv_aload_n hx hb dX1_told_73 rfl (lv_at hl 0 rfl) ?_
      refine h_getI Z hS cls_2 hj4 (by decide) rfl fl_X1_196_2 dX1_told_74 h (fun x7 h => ?_)
      exact h_iret Z hS dX1_told_77 h
    replace h := if_f h c5_1
    by_cases c5_2 : a2 = (2 : Int32)
    · refine h_tsw (k := (2 : Int32)) (off := 60) (tgt := 78) Z dX1_told_18 c5_2 (by decide) (by decide) rfl (by decide) ?_
      have h := if_t h c5_2
      refine lv_aload_n hx hb dX1_told_78 rfl (lv_at hl 0 rfl) ?_
      refine h_getI Z hS cls_2 hj4 (by decide) rfl fl_X1_199_2 dX1_told_79 h (fun x8 h => ?_)
      exact h_iret Z hS dX1_told_82 h
    replace h := if_f h c5_2
    by_cases c5_3 : a2 = (3 : Int32)
    · refine h_tsw (k := (3 : Int32)) (off := 65) (tgt := 83) Z dX1_told_18 c5_3 (by decide) (by decide) rfl (by decide) ?_
      have h := if_t h c5_3
      refine lv_aload_n hx hb dX1_told_83 rfl (lv_at hl 0 rfl) ?_
      refine h_getC (n := 2) (j := (j4 + 2)) (sh := (13, 0)) Z hS cls_2 hj4 (by decide) rfl rfl rfl fl_X1_202_2 dX1_told_84 (fun hc9 => ?_)
      refine h_ci hS h (fun z hz => h_rD (rest := []) Z hS hc9 rfl vd_X1_206 (w_X19_all_3 hc9 hz) rfl rfl ⟨by decide, by decide⟩ rfl hl.1 rfl (Nat.le_of_ble_eq_true rfl) (Nat.zero_le _) (Nat.zero_le _) dX1_told_87) (fun x10 H locs hS h => ?_)
      exact h_iret Z hS dX1_told_90 h
    replace h := if_f h c5_3
    by_cases c5_4 : a2 = (4 : Int32)
    · refine h_tsw (k := (4 : Int32)) (off := 73) (tgt := 91) Z dX1_told_18 c5_4 (by decide) (by decide) rfl (by decide) ?_
      have h := if_t h c5_4
      refine lv_aload_n hx hb dX1_told_91 rfl (lv_at hl 0 rfl) ?_
      refine h_ci hS h (fun z hz => h_rV (rest := []) Z hS hj4 rfl v_X1_209 (w_X3_isOpen hj4 hz) rfl rfl ⟨by decide, by decide⟩ rfl hl.1 rfl (Nat.le_of_ble_eq_true rfl) (Nat.zero_le _) (Nat.zero_le _) dX1_told_92) (fun x11 H locs hS h => ?_)
      refine lv_if_eq (tgt := 105) hx hb dX1_told_95 (by decide) (fun c12 => ?_) (fun c12 => ?_)
      · have h := if_t h c12
        refine lv_iconst (v := (-1 : Int32)) hx hb dX1_told_105 (by decide) ?_
        exact h_iret Z hS dX1_told_106 h
      · have h := if_f h c12
        refine lv_aload_n hx hb dX1_told_98 rfl (lv_at hl 0 rfl) ?_
        refine h_ci hS h (fun z hz => h_rV (rest := []) Z hS hj4 rfl v_X1_213 (w_X3_bed hj4 hz) rfl rfl ⟨by decide, by decide⟩ rfl hl.1 rfl (Nat.le_of_ble_eq_true rfl) (Nat.zero_le _) (Nat.zero_le _) dX1_told_99) (fun x13 H locs hS h => ?_)
        refine lv_goto (tgt := 106) hx hb dX1_told_102 (by decide) ?_
        exact h_iret Z hS dX1_told_106 h
    replace h := if_f h c5_4
    by_cases c5_5 : a2 = (5 : Int32)
    · refine h_tsw (k := (5 : Int32)) (off := 89) (tgt := 107) Z dX1_told_18 c5_5 (by decide) (by decide) rfl (by decide) ?_
      have h := if_t h c5_5
      refine lv_aload_n hx hb dX1_told_107 rfl (lv_at hl 0 rfl) ?_
      refine h_getI Z hS cls_2 hj4 (by decide) rfl fl_X1_147_2 dX1_told_108 h (fun x14 h => ?_)
      exact h_iret Z hS dX1_told_111 h
    replace h := if_f h c5_5
    by_cases c5_6 : a2 = (6 : Int32)
    · refine h_tsw (k := (6 : Int32)) (off := 94) (tgt := 112) Z dX1_told_18 c5_6 (by decide) (by decide) rfl (by decide) ?_
      have h := if_t h c5_6
      refine lv_aload_n hx hb dX1_told_112 rfl (lv_at hl 0 rfl) ?_
      refine h_getI Z hS cls_2 hj4 (by decide) rfl fl_X1_216_2 dX1_told_113 h (fun x15 h => ?_)
      exact h_iret Z hS dX1_told_116 h
    replace h := if_f h c5_6
    by_cases c5_7 : a2 = (7 : Int32)
    · refine h_tsw (k := (7 : Int32)) (off := 99) (tgt := 117) Z dX1_told_18 c5_7 (by decide) (by decide) rfl (by decide) ?_
      have h := if_t h c5_7
      refine lv_aload_n hx hb dX1_told_117 rfl (lv_at hl 0 rfl) ?_
      refine h_getI Z hS cls_2 hj4 (by decide) rfl fl_X1_219_2 dX1_told_118 h (fun x16 h => ?_)
      exact h_iret Z hS dX1_told_121 h
    replace h := if_f h c5_7
    by_cases c5_8 : a2 = (8 : Int32)
    · refine h_tsw (k := (8 : Int32)) (off := 104) (tgt := 122) Z dX1_told_18 c5_8 (by decide) (by decide) rfl (by decide) ?_
      have h := if_t h c5_8
      refine lv_aload_n hx hb dX1_told_122 rfl (lv_at hl 0 rfl) ?_
      refine h_getI Z hS cls_2 hj4 (by decide) rfl fl_X1_222_2 dX1_told_123 h (fun x17 h => ?_)
      exact h_iret Z hS dX1_told_126 h
    replace h := if_f h c5_8
    refine h_tswd (n := 8) (tgt := 127) Z dX1_told_18 (by decide) (fun t ht => ?_) (by decide) ?_
    · rcases (show t = 0 ∨ t = 1 ∨ t = 2 ∨ t = 3 ∨ t = 4 ∨ t = 5 ∨ t = 6 ∨ t = 7 ∨ t = 8 by omega) with rfl | rfl | rfl | rfl | rfl | rfl | rfl | rfl | rfl
      · exact Or.inr (ne_int c5_0 (by decide))
      · exact Or.inr (ne_int c5_1 (by decide))
      · exact Or.inr (ne_int c5_2 (by decide))
      · exact Or.inr (ne_int c5_3 (by decide))
      · exact Or.inr (ne_int c5_4 (by decide))
      · exact Or.inr (ne_int c5_5 (by decide))
      · exact Or.inr (ne_int c5_6 (by decide))
      · exact Or.inr (ne_int c5_7 (by decide))
      · exact Or.inr (ne_int c5_8 (by decide))
    refine lv_iconst (v := (-1 : Int32)) hx hb dX1_told_127 (by decide) ?_
    exact h_iret Z hS dX1_told_128 h
  · have h := if_t h c2
    refine lv_iconst (v := (-1 : Int32)) hx hb dX1_told_8 (by decide) ?_
    exact h_iret Z hS dX1_told_9 h
end
theorem dX3_press_0 : decode cX3_press 0 = .ok (.aload_n 0, 1) := by decide +kernel
theorem dX3_press_1 : decode cX3_press 1 = .ok (.getfield 24, 3) := by decide +kernel
theorem dX3_press_4 : decode cX3_press 4 = .ok (.iconst 0, 1) := by decide +kernel
theorem dX3_press_5 : decode cX3_press 5 = .ok (.iaload, 1) := by decide +kernel
theorem dX3_press_6 : decode cX3_press 6 = .ok (.ireturn, 1) := by decide +kernel
abbrev rm_X3_press : Room := k2_rm 0 0
section
variable {p : Program} {l : Launch} {e : Env} {s : State} {m : MethodId} {args : Array Value} {below : List Frame} {meth : Method} {c : Code} {D : gD} {A : Nat → Prop} {ad : Nat → Nat} {S : Nat → Nat × Nat} {σ : Mem}
set_option maxRecDepth 100000 in
set_option maxHeartbeats 4000000 in
theorem w_X3_press {i0 : Nat} (hi0 : S i0 = (12, 0)) {r : Int32} (h : f_X3_press σ i0 = some r) : Met l yX3_press (ws_ yX3_press cX3_press 1 (some .int)) rm_X3_press (va_Pc [.ref (ad i0)] (PreG D (Ew D A) A ad S σ)) (QG D A ad S (some (.int r)) σ) 0 0 A := by
  refine y_met (by decide) (Nat.le_of_ble_eq_true rfl) (fun p e s m below meth c ls Z hS hl => ?_)
  have hx := Z.1
  have hb := Z.2.1
  have hown := Z.2.2.2.2.2.1
  have hts := Z.2.2.2.2.2.2.1
  unfold f_X3_press at h
  refine lv_aload_n hx hb dX3_press_0 rfl (lv_at hl 0 rfl) ?_
  refine h_getC (n := 4) (j := (i0 + 4)) (sh := (1, 3)) Z hS cls_2 hi0 (by decide) rfl rfl rfl fl_X3_24_2 dX3_press_1 (fun hc1 => ?_)
  refine lv_iconst (v := (0 : Int32)) hx hb dX3_press_4 (by decide) ?_
  refine h_iald Z hS hc1 dX3_press_5 h (fun x2 h => ?_)
  exact h_iret Z hS dX3_press_6 h
end
theorem dX5_resist_0 : decode cX5_resist 0 = .ok (.aload_n 0, 1) := by decide +kernel
theorem dX5_resist_1 : decode cX5_resist 1 = .ok (.invokevirtual 7, 3) := by decide +kernel
theorem dX5_resist_4 : decode cX5_resist 4 = .ok (.i2l, 1) := by decide +kernel
theorem dX5_resist_5 : decode cX5_resist 5 = .ok (.bipush 100, 2) := by decide +kernel
theorem dX5_resist_7 : decode cX5_resist 7 = .ok (.iload_n 1, 1) := by decide +kernel
theorem dX5_resist_8 : decode cX5_resist 8 = .ok (.iload_n 2, 1) := by decide +kernel
theorem dX5_resist_9 : decode cX5_resist 9 = .ok (.idiv, 1) := by decide +kernel
theorem dX5_resist_10 : decode cX5_resist 10 = .ok (.iadd, 1) := by decide +kernel
theorem dX5_resist_11 : decode cX5_resist 11 = .ok (.i2l, 1) := by decide +kernel
theorem dX5_resist_12 : decode cX5_resist 12 = .ok (.lmul, 1) := by decide +kernel
theorem dX5_resist_13 : decode cX5_resist 13 = .ok (.ldc2_w 13, 3) := by decide +kernel
theorem dX5_resist_16 : decode cX5_resist 16 = .ok (.ldiv, 1) := by decide +kernel
theorem dX5_resist_17 : decode cX5_resist 17 = .ok (.lreturn, 1) := by decide +kernel
abbrev rm_X5_resist : Room := k2_rm 2 43
section
variable {p : Program} {l : Launch} {e : Env} {s : State} {m : MethodId} {args : Array Value} {below : List Frame} {meth : Method} {c : Code} {D : gD} {A : Nat → Prop} {ad : Nat → Nat} {S : Nat → Nat × Nat} {σ : Mem}
set_option maxRecDepth 100000 in
set_option maxHeartbeats 4000000 in
theorem w_X5_resist {i0 : Nat} {a1 : Int32} {a2 : Int32} (hi0 : S i0 = (13, 0)) {r : Int64} (h : f_X5_resist σ i0 a1 a2 = some r) : Met l yX5_resist (ws_ yX5_resist cX5_resist 3 (some .long)) rm_X5_resist (va_Pc [.ref (ad i0), .int a1, .int a2] (PreG D (Ew D A) A ad S σ)) (QG D A ad S (some (.long r)) σ) 0 0 A := by
  refine y_met (by decide) (Nat.le_of_ble_eq_true rfl) (fun p e s m below meth c ls Z hS hl => ?_)
  have hx := Z.1
  have hb := Z.2.1
  have hown := Z.2.2.2.2.2.1
  have hts := Z.2.2.2.2.2.2.1
  unfold f_X5_resist at h
  refine lv_aload_n hx hb dX5_resist_0 rfl (lv_at hl 0 rfl) ?_
  refine h_ci hS h (fun z hz => h_rD (rest := []) Z hS hi0 rfl vd_X5_7 (w_X19_all_3 hi0 hz) rfl rfl ⟨by decide, by decide⟩ rfl hl.1 rfl (Nat.le_of_ble_eq_true rfl) (Nat.zero_le _) (Nat.zero_le _) dX5_resist_1) (fun x1 H locs hS h => ?_)
  refine lv_i2l hx hb dX5_resist_4 rfl ?_
  refine lv_bipush (v := (100 : Int32)) hx hb dX5_resist_5 (by decide) ?_
  refine lv_iload_n hx hb dX5_resist_7 rfl (lv_at hl 1 rfl) ?_
  refine lv_iload_n hx hb dX5_resist_8 rfl (lv_at hl 2 rfl) ?_
  refine h_idiv Z dX5_resist_9 h (fun h => ?_)
  refine lv_iadd hx hb dX5_resist_10 ?_
  refine lv_i2l hx hb dX5_resist_11 rfl ?_
  refine lv_lmul hx hb dX5_resist_12 ?_
  refine lv_ldc2 (v := (100 : Int64)) hx hb hown (hts _ q486) dX5_resist_13 ?_
  refine h_ldiv Z dX5_resist_16 h (fun h => ?_)
  exact h_lret Z hS dX5_resist_17 h
end
theorem dX3_needs_0 : decode cX3_needs 0 = .ok (.iload 4, 2) := by decide +kernel
theorem dX3_needs_2 : decode cX3_needs 2 = .ok (.i2l, 1) := by decide +kernel
theorem dX3_needs_3 : decode cX3_needs 3 = .ok (.lload_n 1, 1) := by decide +kernel
theorem dX3_needs_4 : decode cX3_needs 4 = .ok (.aload_n 0, 1) := by decide +kernel
theorem dX3_needs_5 : decode cX3_needs 5 = .ok (.getfield 20, 3) := by decide +kernel
theorem dX3_needs_8 : decode cX3_needs 8 = .ok (.iload_n 3, 1) := by decide +kernel
theorem dX3_needs_9 : decode cX3_needs 9 = .ok (.aload_n 0, 1) := by decide +kernel
theorem dX3_needs_10 : decode cX3_needs 10 = .ok (.invokevirtual 61, 3) := by decide +kernel
theorem dX3_needs_13 : decode cX3_needs 13 = .ok (.invokevirtual 64, 3) := by decide +kernel
theorem dX3_needs_16 : decode cX3_needs 16 = .ok (.ladd, 1) := by decide +kernel
theorem dX3_needs_17 : decode cX3_needs 17 = .ok (.lmul, 1) := by decide +kernel
theorem dX3_needs_18 : decode cX3_needs 18 = .ok (.ldc2_w 67, 3) := by decide +kernel
theorem dX3_needs_21 : decode cX3_needs 21 = .ok (.ldiv, 1) := by decide +kernel
theorem dX3_needs_22 : decode cX3_needs 22 = .ok (.lreturn, 1) := by decide +kernel
abbrev rm_X3_needs : Room := k2_rm 3 65
section
variable {p : Program} {l : Launch} {e : Env} {s : State} {m : MethodId} {args : Array Value} {below : List Frame} {meth : Method} {c : Code} {D : gD} {A : Nat → Prop} {ad : Nat → Nat} {S : Nat → Nat × Nat} {σ : Mem}
set_option maxRecDepth 100000 in
set_option maxHeartbeats 4000000 in
theorem w_X3_needs {i0 : Nat} {a1 : Int64} {a2 : Int32} {a3 : Int32} (hi0 : S i0 = (12, 0)) {r : Int64} (h : f_X3_needs σ i0 a1 a2 a3 = some r) : Met l yX3_needs (ws_ yX3_needs cX3_needs 5 (some .long)) rm_X3_needs (va_Pc [.ref (ad i0), .long a1, .int a2, .int a3] (PreG D (Ew D A) A ad S σ)) (QG D A ad S (some (.long r)) σ) 0 0 A := by
  refine y_met (by decide) (Nat.le_of_ble_eq_true rfl) (fun p e s m below meth c ls Z hS hl => ?_)
  have hx := Z.1
  have hb := Z.2.1
  have hown := Z.2.2.2.2.2.1
  have hts := Z.2.2.2.2.2.2.1
  unfold f_X3_needs at h
  refine lv_iload hx hb dX3_needs_0 (lv_at hl 3 rfl) ?_
  refine lv_i2l hx hb dX3_needs_2 rfl ?_
  refine lv_lload_n hx hb dX3_needs_3 rfl (lv_at hl 1 rfl) ?_
  refine lv_aload_n hx hb dX3_needs_4 rfl (lv_at hl 0 rfl) ?_
  refine h_getC (n := 2) (j := (i0 + 2)) (sh := (13, 0)) Z hS cls_2 hi0 (by decide) rfl rfl rfl fl_X3_20_2 dX3_needs_5 (fun hc1 => ?_)
  refine lv_iload_n hx hb dX3_needs_8 rfl (lv_at hl 2 rfl) ?_
  refine lv_aload_n hx hb dX3_needs_9 rfl (lv_at hl 0 rfl) ?_
  refine h_ci hS h (fun z hz => h_rV (rest := [.int a2, .ref (ad (i0 + 2)), .long a1, .long (a3).toInt64]) Z hS hi0 rfl v_X3_61 (w_X3_press hi0 hz) rfl rfl ⟨by decide, by decide⟩ rfl hl.1 rfl (Nat.le_of_ble_eq_true rfl) (Nat.zero_le _) (Nat.zero_le _) dX3_needs_10) (fun x2 H locs hS h => ?_)
  refine h_cl hS h (fun z hz => h_rV (rest := [.long a1, .long (a3).toInt64]) Z hS hc1 rfl v_X3_64 (w_X5_resist hc1 hz) rfl rfl ⟨by decide, by decide⟩ rfl hl.1 rfl (Nat.le_of_ble_eq_true rfl) (Nat.zero_le _) (Nat.zero_le _) dX3_needs_13) (fun y3 H locs hS h => ?_)
  refine lv_ladd hx hb dX3_needs_16 ?_
  refine lv_lmul hx hb dX3_needs_17 ?_
  refine lv_ldc2 (v := (100 : Int64)) hx hb hown (hts _ q487) dX3_needs_18 ?_
  refine h_ldiv Z dX3_needs_21 h (fun h => ?_)
  exact h_lret Z hS dX3_needs_22 h
end
theorem dX3_pushWith_0 : decode cX3_pushWith 0 = .ok (.aload_n 0, 1) := by decide +kernel
theorem dX3_pushWith_1 : decode cX3_pushWith 1 = .ok (.invokevirtual 48, 3) := by decide +kernel
theorem dX3_pushWith_4 : decode cX3_pushWith 4 = .ok (.ifCond .ne 5, 3) := by decide +kernel
theorem dX3_pushWith_7 : decode cX3_pushWith 7 = .ok (.iconst (-1), 1) := by decide +kernel
theorem dX3_pushWith_8 : decode cX3_pushWith 8 = .ok (.ireturn, 1) := by decide +kernel
theorem dX3_pushWith_9 : decode cX3_pushWith 9 = .ok (.aload_n 0, 1) := by decide +kernel
theorem dX3_pushWith_10 : decode cX3_pushWith 10 = .ok (.invokevirtual 52, 3) := by decide +kernel
theorem dX3_pushWith_13 : decode cX3_pushWith 13 = .ok (.i2l, 1) := by decide +kernel
theorem dX3_pushWith_14 : decode cX3_pushWith 14 = .ok (.lstore_n 2, 1) := by decide +kernel
theorem dX3_pushWith_15 : decode cX3_pushWith 15 = .ok (.lconst 0, 1) := by decide +kernel
theorem dX3_pushWith_16 : decode cX3_pushWith 16 = .ok (.lstore 4, 2) := by decide +kernel
theorem dX3_pushWith_18 : decode cX3_pushWith 18 = .ok (.aload_n 0, 1) := by decide +kernel
theorem dX3_pushWith_19 : decode cX3_pushWith 19 = .ok (.lload_n 2, 1) := by decide +kernel
theorem dX3_pushWith_20 : decode cX3_pushWith 20 = .ok (.iconst 0, 1) := by decide +kernel
theorem dX3_pushWith_21 : decode cX3_pushWith 21 = .ok (.iload_n 1, 1) := by decide +kernel
theorem dX3_pushWith_22 : decode cX3_pushWith 22 = .ok (.invokevirtual 55, 3) := by decide +kernel
theorem dX3_pushWith_25 : decode cX3_pushWith 25 = .ok (.lstore 6, 2) := by decide +kernel
theorem dX3_pushWith_27 : decode cX3_pushWith 27 = .ok (.lload 6, 2) := by decide +kernel
theorem dX3_pushWith_29 : decode cX3_pushWith 29 = .ok (.lload 4, 2) := by decide +kernel
theorem dX3_pushWith_31 : decode cX3_pushWith 31 = .ok (.lcmp, 1) := by decide +kernel
theorem dX3_pushWith_32 : decode cX3_pushWith 32 = .ok (.ifCond .le 30, 3) := by decide +kernel
theorem dX3_pushWith_35 : decode cX3_pushWith 35 = .ok (.lload 6, 2) := by decide +kernel
theorem dX3_pushWith_37 : decode cX3_pushWith 37 = .ok (.ldc2_w 59, 3) := by decide +kernel
theorem dX3_pushWith_40 : decode cX3_pushWith 40 = .ok (.lcmp, 1) := by decide +kernel
theorem dX3_pushWith_41 : decode cX3_pushWith 41 = .ok (.ifCond .gt 21, 3) := by decide +kernel
theorem dX3_pushWith_44 : decode cX3_pushWith 44 = .ok (.lload 6, 2) := by decide +kernel
theorem dX3_pushWith_46 : decode cX3_pushWith 46 = .ok (.lstore 4, 2) := by decide +kernel
theorem dX3_pushWith_48 : decode cX3_pushWith 48 = .ok (.aload_n 0, 1) := by decide +kernel
theorem dX3_pushWith_49 : decode cX3_pushWith 49 = .ok (.lload_n 2, 1) := by decide +kernel
theorem dX3_pushWith_50 : decode cX3_pushWith 50 = .ok (.lload 4, 2) := by decide +kernel
theorem dX3_pushWith_52 : decode cX3_pushWith 52 = .ok (.l2i, 1) := by decide +kernel
theorem dX3_pushWith_53 : decode cX3_pushWith 53 = .ok (.iload_n 1, 1) := by decide +kernel
theorem dX3_pushWith_54 : decode cX3_pushWith 54 = .ok (.invokevirtual 55, 3) := by decide +kernel
theorem dX3_pushWith_57 : decode cX3_pushWith 57 = .ok (.lstore 6, 2) := by decide +kernel
theorem dX3_pushWith_59 : decode cX3_pushWith 59 = .ok (.goto (-32), 3) := by decide +kernel
theorem dX3_pushWith_62 : decode cX3_pushWith 62 = .ok (.lload 6, 2) := by decide +kernel
theorem dX3_pushWith_64 : decode cX3_pushWith 64 = .ok (.ldc2_w 59, 3) := by decide +kernel
theorem dX3_pushWith_67 : decode cX3_pushWith 67 = .ok (.lcmp, 1) := by decide +kernel
theorem dX3_pushWith_68 : decode cX3_pushWith 68 = .ok (.ifCond .le 7, 3) := by decide +kernel
theorem dX3_pushWith_71 : decode cX3_pushWith 71 = .ok (.iconst (-1), 1) := by decide +kernel
theorem dX3_pushWith_72 : decode cX3_pushWith 72 = .ok (.goto 6, 3) := by decide +kernel
theorem dX3_pushWith_75 : decode cX3_pushWith 75 = .ok (.lload 4, 2) := by decide +kernel
theorem dX3_pushWith_77 : decode cX3_pushWith 77 = .ok (.l2i, 1) := by decide +kernel
theorem dX3_pushWith_78 : decode cX3_pushWith 78 = .ok (.ireturn, 1) := by decide +kernel
abbrev rm_X3_pushWith : Room := k2_rm 5 105
section
variable {p : Program} {l : Launch} {e : Env} {s : State} {m : MethodId} {args : Array Value} {below : List Frame} {meth : Method} {c : Code} {D : gD} {A : Nat → Prop} {ad : Nat → Nat} {S : Nat → Nat × Nat} {σ : Mem}
set_option maxRecDepth 100000 in
set_option maxHeartbeats 4000000 in
theorem w_X3_pushWith_L27 (Z : Cz D (Ew D A) A cX3_pushWith 8 (some .int) RX3 p s m args meth c) {u0 : Nat} {u1 : Int32} {u2 : Int64} (hu0 : S u0 = (12, 0)) {r : Int32} {k62 : Int64 → Int64 → Option Int32}
    (hk62 : ∀ (w4 : Int64) (w6 : Int64) (H : Heap) (locs : List Loc) (ls : Array Slot), St D A ad S σ s.heap H locs → lv_has ls 8 [(4, .long w4), (6, .long w6)] → k62 w4 w6 = some r → W p l e rm_X3_pushWith s m args below meth c H locs 0 0 (MQ below (QG D A ad S (some (.int r)) σ) args s 0 0 A) (F0 m 62 ls [])) :
    ∀ (n : Nat) (v4 : Int64) (v6 : Int64) (H : Heap) (locs : List Loc) (ls : Array Slot), St D A ad S σ s.heap H locs → lv_has ls 8 [(0, .ref (ad u0)), (1, .int u1), (2, .long u2), (4, .long v4), (6, .long v6)] → f_X3_pushWith_L27 k62 σ u0 u1 u2 n v4 v6 = some r → W p l e rm_X3_pushWith s m args below meth c H locs 0 0 (MQ below (QG D A ad S (some (.int r)) σ) args s 0 0 A) (F0 m 27 ls []) := by
  have hx := Z.1
  have hb := Z.2.1
  have hown := Z.2.2.2.2.2.1
  have hts := Z.2.2.2.2.2.2.1
  intro n
  induction n with
  | zero => intro v4 v6 H locs ls hS hl h; cases h
  | succ n ih =>
    intro v4 v6 H locs ls hS hl h
    unfold f_X3_pushWith_L27 at h
    refine lv_lload hx hb dX3_pushWith_27 (lv_at hl 4 rfl) ?_
    refine lv_lload hx hb dX3_pushWith_29 (lv_at hl 3 rfl) ?_
    refine y_lcmp_le (tgt := 62) hx hb dX3_pushWith_31 dX3_pushWith_32 (by decide) (fun c6 => ?_) (fun c6 => ?_)
    · have h := if_t h c6
      exact hk62 _ _ _ _ _ hS (lv_sub hl [3, 4] rfl) h
    · have h := if_f h c6
      refine lv_lload hx hb dX3_pushWith_35 (lv_at hl 4 rfl) ?_
      refine lv_ldc2 (v := (100000 : Int64)) hx hb hown (hts _ q488) dX3_pushWith_37 ?_
      refine y_lcmp_gt (tgt := 62) hx hb dX3_pushWith_40 dX3_pushWith_41 (by decide) (fun c7 => ?_) (fun c7 => ?_)
      · have h := if_t h c7
        exact hk62 _ _ _ _ _ hS (lv_sub hl [3, 4] rfl) h
      · have h := if_f h c7
        refine lv_lload hx hb dX3_pushWith_44 (lv_at hl 4 rfl) ?_
        refine lv_lstore (lv' := [(4, .long v6), (0, .ref (ad u0)), (1, .int u1), (2, .long u2), (6, .long v6)]) hx hb dX3_pushWith_46 hl (by decide) rfl (fun ls hl => ?_)
        refine lv_aload_n hx hb dX3_pushWith_48 rfl (lv_at hl 1 rfl) ?_
        refine lv_lload_n hx hb dX3_pushWith_49 rfl (lv_at hl 3 rfl) ?_
        refine lv_lload hx hb dX3_pushWith_50 (lv_at hl 0 rfl) ?_
        refine lv_l2i hx hb dX3_pushWith_52 rfl ?_
        refine lv_iload_n hx hb dX3_pushWith_53 rfl (lv_at hl 2 rfl) ?_
        refine h_cl hS h (fun z hz => h_rV (rest := []) Z hS hu0 rfl v_X3_55 (w_X3_needs hu0 hz) rfl rfl ⟨by decide, by decide⟩ rfl hl.1 rfl (Nat.le_of_ble_eq_true rfl) (Nat.zero_le _) (Nat.zero_le _) dX3_pushWith_54) (fun y8 H locs hS h => ?_)
        refine lv_lstore (lv' := [(6, .long y8), (4, .long v6), (0, .ref (ad u0)), (1, .int u1), (2, .long u2)]) hx hb dX3_pushWith_57 hl (by decide) rfl (fun ls hl => ?_)
        refine lv_goto (tgt := 27) hx hb dX3_pushWith_59 (by decide) ?_
        exact ih _ _ _ _ _ hS (lv_sub hl [2, 3, 4, 1, 0] rfl) h
set_option maxRecDepth 100000 in
set_option maxHeartbeats 4000000 in
theorem w_X3_pushWith {i0 : Nat} {a1 : Int32} (hi0 : S i0 = (12, 0)) {r : Int32} (h : f_X3_pushWith σ i0 a1 = some r) : Met l yX3_pushWith (ws_ yX3_pushWith cX3_pushWith 8 (some .int)) rm_X3_pushWith (va_Pc [.ref (ad i0), .int a1] (PreG D (Ew D A) A ad S σ)) (QG D A ad S (some (.int r)) σ) 0 0 A := by
  refine y_met (by decide) (Nat.le_of_ble_eq_true rfl) (fun p e s m below meth c ls Z hS hl => ?_)
  have hx := Z.1
  have hb := Z.2.1
  have hown := Z.2.2.2.2.2.1
  have hts := Z.2.2.2.2.2.2.1
  unfold f_X3_pushWith at h
  refine lv_aload_n hx hb dX3_pushWith_0 rfl (lv_at hl 0 rfl) ?_
  refine h_ci hS h (fun z hz => h_rV (rest := []) Z hS hi0 rfl v_X3_48 (w_X3_isOpen hi0 hz) rfl rfl ⟨by decide, by decide⟩ rfl hl.1 rfl (Nat.le_of_ble_eq_true rfl) (Nat.zero_le _) (Nat.zero_le _) dX3_pushWith_1) (fun x1 H locs hS h => ?_)
  refine lv_if_ne (tgt := 9) hx hb dX3_pushWith_4 (by decide) (fun c2 => ?_) (fun c2 => ?_)
  · have h := if_f h c2
    refine lv_aload_n hx hb dX3_pushWith_9 rfl (lv_at hl 0 rfl) ?_
    refine h_ci hS h (fun z hz => h_rV (rest := []) Z hS hi0 rfl v_X3_52 (w_X3_bed hi0 hz) rfl rfl ⟨by decide, by decide⟩ rfl hl.1 rfl (Nat.le_of_ble_eq_true rfl) (Nat.zero_le _) (Nat.zero_le _) dX3_pushWith_10) (fun x3 H locs hS h => ?_)
    refine lv_i2l hx hb dX3_pushWith_13 rfl ?_
    refine h_letl h (fun y4 h => ?_)
    refine lv_lstore_n (lv' := [(2, .long y4), (0, .ref (ad i0)), (1, .int a1)]) hx hb dX3_pushWith_14 rfl hl (by decide) rfl (fun ls hl => ?_)
    refine lv_lconst (v := (0 : Int64)) hx hb dX3_pushWith_15 (by decide) ?_
    refine lv_lstore (lv' := [(4, .long (0 : Int64)), (2, .long y4), (0, .ref (ad i0)), (1, .int a1)]) hx hb dX3_pushWith_16 hl (by decide) rfl (fun ls hl => ?_)
    refine lv_aload_n hx hb dX3_pushWith_18 rfl (lv_at hl 2 rfl) ?_
    refine lv_lload_n hx hb dX3_pushWith_19 rfl (lv_at hl 1 rfl) ?_
    refine lv_iconst (v := (0 : Int32)) hx hb dX3_pushWith_20 (by decide) ?_
    refine lv_iload_n hx hb dX3_pushWith_21 rfl (lv_at hl 3 rfl) ?_
    refine h_cl hS h (fun z hz => h_rV (rest := []) Z hS hi0 rfl v_X3_55 (w_X3_needs hi0 hz) rfl rfl ⟨by decide, by decide⟩ rfl hl.1 rfl (Nat.le_of_ble_eq_true rfl) (Nat.zero_le _) (Nat.zero_le _) dX3_pushWith_22) (fun y5 H locs hS h => ?_)
    refine lv_lstore (lv' := [(6, .long y5), (4, .long (0 : Int64)), (2, .long y4), (0, .ref (ad i0)), (1, .int a1)]) hx hb dX3_pushWith_25 hl (by decide) rfl (fun ls hl => ?_)
    refine w_X3_pushWith_L27 Z hi0 (fun y9 y10 H locs ls hS hl h => ?_) FU _ _ _ _ _ hS (lv_sub hl [3, 4, 2, 1, 0] rfl) h
    refine lv_lload hx hb dX3_pushWith_62 (lv_at hl 1 rfl) ?_
    refine lv_ldc2 (v := (100000 : Int64)) hx hb hown (hts _ q488) dX3_pushWith_64 ?_
    refine y_lcmp_le (tgt := 75) hx hb dX3_pushWith_67 dX3_pushWith_68 (by decide) (fun c11 => ?_) (fun c11 => ?_)
    · have h := if_t h c11
      refine lv_lload hx hb dX3_pushWith_75 (lv_at hl 0 rfl) ?_
      refine lv_l2i hx hb dX3_pushWith_77 rfl ?_
      exact h_iret Z hS dX3_pushWith_78 h
    · have h := if_f h c11
      refine lv_iconst (v := (-1 : Int32)) hx hb dX3_pushWith_71 (by decide) ?_
      refine lv_goto (tgt := 78) hx hb dX3_pushWith_72 (by decide) ?_
      exact h_iret Z hS dX3_pushWith_78 h
  · have h := if_t h c2
    refine lv_iconst (v := (-1 : Int32)) hx hb dX3_pushWith_7 (by decide) ?_
    exact h_iret Z hS dX3_pushWith_8 h
end
theorem dX1_push_0 : decode cX1_push 0 = .ok (.aload_n 0, 1) := by decide +kernel
theorem dX1_push_1 : decode cX1_push 1 = .ok (.iload_n 1, 1) := by decide +kernel
theorem dX1_push_2 : decode cX1_push 2 = .ok (.invokevirtual 144, 3) := by decide +kernel
theorem dX1_push_5 : decode cX1_push 5 = .ok (.ifCond .eq 28, 3) := by decide +kernel
theorem dX1_push_8 : decode cX1_push 8 = .ok (.iload_n 2, 1) := by decide +kernel
theorem dX1_push_9 : decode cX1_push 9 = .ok (.i2l, 1) := by decide +kernel
theorem dX1_push_10 : decode cX1_push 10 = .ok (.lconst 1, 1) := by decide +kernel
theorem dX1_push_11 : decode cX1_push 11 = .ok (.ldc2_w 138, 3) := by decide +kernel
theorem dX1_push_14 : decode cX1_push 14 = .ok (.invokestatic 5, 3) := by decide +kernel
theorem dX1_push_17 : decode cX1_push 17 = .ok (.ifCond .eq 16, 3) := by decide +kernel
theorem dX1_push_20 : decode cX1_push 20 = .ok (.aload_n 0, 1) := by decide +kernel
theorem dX1_push_21 : decode cX1_push 21 = .ok (.getfield 24, 3) := by decide +kernel
theorem dX1_push_24 : decode cX1_push 24 = .ok (.iload_n 1, 1) := by decide +kernel
theorem dX1_push_25 : decode cX1_push 25 = .ok (.aaload, 1) := by decide +kernel
theorem dX1_push_26 : decode cX1_push 26 = .ok (.iload_n 2, 1) := by decide +kernel
theorem dX1_push_27 : decode cX1_push 27 = .ok (.invokevirtual 225, 3) := by decide +kernel
theorem dX1_push_30 : decode cX1_push 30 = .ok (.goto 4, 3) := by decide +kernel
theorem dX1_push_33 : decode cX1_push 33 = .ok (.iconst (-1), 1) := by decide +kernel
theorem dX1_push_34 : decode cX1_push 34 = .ok (.ireturn, 1) := by decide +kernel
abbrev rm_X1_push : Room := k2_rm 6 132
section
variable {p : Program} {l : Launch} {e : Env} {s : State} {m : MethodId} {args : Array Value} {below : List Frame} {meth : Method} {c : Code} {D : gD} {A : Nat → Prop} {ad : Nat → Nat} {S : Nat → Nat × Nat} {σ : Mem}
set_option maxRecDepth 100000 in
set_option maxHeartbeats 4000000 in
theorem w_X1_push {a1 : Int32} {a2 : Int32} (hi0 : S 0 = (10, 0)) {r : Int32} (h : f_X1_push σ a1 a2 = some r) : Met l yX1_push (ws_ yX1_push cX1_push 3 (some .int)) rm_X1_push (va_Pc [.ref (ad 0), .int a1, .int a2] (PreG D (Ew D A) A ad S σ)) (QG D A ad S (some (.int r)) σ) 0 0 A := by
  refine y_met (by decide) (Nat.le_of_ble_eq_true rfl) (fun p e s m below meth c ls Z hS hl => ?_)
  have hx := Z.1
  have hb := Z.2.1
  have hown := Z.2.2.2.2.2.1
  have hts := Z.2.2.2.2.2.2.1
  unfold f_X1_push at h
  refine lv_aload_n hx hb dX1_push_0 rfl (lv_at hl 0 rfl) ?_
  refine lv_iload_n hx hb dX1_push_1 rfl (lv_at hl 1 rfl) ?_
  refine h_ci hS h (fun z hz => h_rV (rest := []) Z hS hi0 rfl v_X1_144 (w_X1_isFilter hi0 hz) rfl rfl ⟨by decide, by decide⟩ rfl hl.1 rfl (Nat.le_of_ble_eq_true rfl) (Nat.zero_le _) (Nat.zero_le _) dX1_push_2) (fun x1 H locs hS h => ?_)
  refine lv_if_eq (tgt := 33) hx hb dX1_push_5 (by decide) (fun c2 => ?_) (fun c2 => ?_)
  · have h := if_t h c2
    refine lv_iconst (v := (-1 : Int32)) hx hb dX1_push_33 (by decide) ?_
    exact h_iret Z hS dX1_push_34 h
  · have h := if_f h c2
    refine lv_iload_n hx hb dX1_push_8 rfl (lv_at hl 2 rfl) ?_
    refine lv_i2l hx hb dX1_push_9 rfl ?_
    refine lv_lconst (v := (1 : Int64)) hx hb dX1_push_10 (by decide) ?_
    refine lv_ldc2 (v := (1000 : Int64)) hx hb hown (hts _ q358) dX1_push_11 ?_
    refine h_ci hS h (fun z hz => h_rS (rest := []) Z hS v_X1_5 (w_X1_isIn hz) rfl rfl ⟨by decide, by decide⟩ rfl hl.1 rfl (Nat.le_of_ble_eq_true rfl) (Nat.zero_le _) (Nat.zero_le _) dX1_push_14) (fun x3 H locs hS h => ?_)
    refine lv_if_eq (tgt := 33) hx hb dX1_push_17 (by decide) (fun c4 => ?_) (fun c4 => ?_)
    · have h := if_t h c4
      refine lv_iconst (v := (-1 : Int32)) hx hb dX1_push_33 (by decide) ?_
      exact h_iret Z hS dX1_push_34 h
    · have h := if_f h c4
      refine lv_aload_n hx hb dX1_push_20 rfl (lv_at hl 0 rfl) ?_
      refine h_getC (n := 3) (j := 3) (sh := (5, 8)) Z hS cls_0 hi0 (by decide) rfl rfl rfl fl_X1_24_0 dX1_push_21 (fun hc5 => ?_)
      refine lv_iload_n hx hb dX1_push_24 rfl (lv_at hl 1 rfl) ?_
      refine h_aldN (sh := (12, 0)) Z hS hc5 (by decide) (by decide) rfl dX1_push_25 h (fun j6 hj6 h => ?_)
      refine lv_iload_n hx hb dX1_push_26 rfl (lv_at hl 2 rfl) ?_
      refine h_ci hS h (fun z hz => h_rV (rest := []) Z hS hj6 rfl v_X1_225 (w_X3_pushWith hj6 hz) rfl rfl ⟨by decide, by decide⟩ rfl hl.1 rfl (Nat.le_of_ble_eq_true rfl) (Nat.zero_le _) (Nat.zero_le _) dX1_push_27) (fun x7 H locs hS h => ?_)
      refine lv_goto (tgt := 34) hx hb dX1_push_30 (by decide) ?_
      exact h_iret Z hS dX1_push_34 h
end
theorem dX1_bytes_0 : decode cX1_bytes 0 = .ok (.iconst 0, 1) := by decide +kernel
theorem dX1_bytes_1 : decode cX1_bytes 1 = .ok (.istore_n 1, 1) := by decide +kernel
theorem dX1_bytes_2 : decode cX1_bytes 2 = .ok (.bipush 24, 2) := by decide +kernel
theorem dX1_bytes_4 : decode cX1_bytes 4 = .ok (.istore_n 2, 1) := by decide +kernel
theorem dX1_bytes_5 : decode cX1_bytes 5 = .ok (.iload_n 2, 1) := by decide +kernel
theorem dX1_bytes_6 : decode cX1_bytes 6 = .ok (.ifCond .lt 27, 3) := by decide +kernel
theorem dX1_bytes_9 : decode cX1_bytes 9 = .ok (.iload_n 1, 1) := by decide +kernel
theorem dX1_bytes_10 : decode cX1_bytes 10 = .ok (.iload_n 0, 1) := by decide +kernel
theorem dX1_bytes_11 : decode cX1_bytes 11 = .ok (.iload_n 2, 1) := by decide +kernel
theorem dX1_bytes_12 : decode cX1_bytes 12 = .ok (.ishr, 1) := by decide +kernel
theorem dX1_bytes_13 : decode cX1_bytes 13 = .ok (.sipush 255, 3) := by decide +kernel
theorem dX1_bytes_16 : decode cX1_bytes 16 = .ok (.iand, 1) := by decide +kernel
theorem dX1_bytes_17 : decode cX1_bytes 17 = .ok (.ifCond .eq 7, 3) := by decide +kernel
theorem dX1_bytes_20 : decode cX1_bytes 20 = .ok (.iconst 1, 1) := by decide +kernel
theorem dX1_bytes_21 : decode cX1_bytes 21 = .ok (.goto 4, 3) := by decide +kernel
theorem dX1_bytes_24 : decode cX1_bytes 24 = .ok (.iconst 0, 1) := by decide +kernel
theorem dX1_bytes_25 : decode cX1_bytes 25 = .ok (.iadd, 1) := by decide +kernel
theorem dX1_bytes_26 : decode cX1_bytes 26 = .ok (.istore_n 1, 1) := by decide +kernel
theorem dX1_bytes_27 : decode cX1_bytes 27 = .ok (.iinc 2 (-8), 3) := by decide +kernel
theorem dX1_bytes_30 : decode cX1_bytes 30 = .ok (.goto (-25), 3) := by decide +kernel
theorem dX1_bytes_33 : decode cX1_bytes 33 = .ok (.iload_n 1, 1) := by decide +kernel
theorem dX1_bytes_34 : decode cX1_bytes 34 = .ok (.ireturn, 1) := by decide +kernel
abbrev rm_X1_bytes : Room := k2_rm 0 0
section
variable {p : Program} {l : Launch} {e : Env} {s : State} {m : MethodId} {args : Array Value} {below : List Frame} {meth : Method} {c : Code} {D : gD} {A : Nat → Prop} {ad : Nat → Nat} {S : Nat → Nat × Nat} {σ : Mem}
set_option maxRecDepth 100000 in
set_option maxHeartbeats 4000000 in
theorem w_X1_bytes_L5 (Z : Cz D (Ew D A) A cX1_bytes 3 (some .int) RX1 p s m args meth c) {u0 : Int32} {r : Int32} {k33 : Int32 → Option Int32}
    (hk33 : ∀ (w1 : Int32) (H : Heap) (locs : List Loc) (ls : Array Slot), St D A ad S σ s.heap H locs → lv_has ls 3 [(1, .int w1)] → k33 w1 = some r → W p l e rm_X1_bytes s m args below meth c H locs 0 0 (MQ below (QG D A ad S (some (.int r)) σ) args s 0 0 A) (F0 m 33 ls [])) :
    ∀ (n : Nat) (v1 : Int32) (v2 : Int32) (H : Heap) (locs : List Loc) (ls : Array Slot), St D A ad S σ s.heap H locs → lv_has ls 3 [(0, .int u0), (1, .int v1), (2, .int v2)] → f_X1_bytes_L5 k33 σ u0 n v1 v2 = some r → W p l e rm_X1_bytes s m args below meth c H locs 0 0 (MQ below (QG D A ad S (some (.int r)) σ) args s 0 0 A) (F0 m 5 ls []) := by
  have hx := Z.1
  have hb := Z.2.1
  have hown := Z.2.2.2.2.2.1
  have hts := Z.2.2.2.2.2.2.1
  intro n
  induction n with
  | zero => intro v1 v2 H locs ls hS hl h; cases h
  | succ n ih =>
    intro v1 v2 H locs ls hS hl h
    unfold f_X1_bytes_L5 at h
    refine lv_iload_n hx hb dX1_bytes_5 rfl (lv_at hl 2 rfl) ?_
    refine lv_if_lt (tgt := 33) hx hb dX1_bytes_6 (by decide) (fun c1 => ?_) (fun c1 => ?_)
    · have h := if_t h c1
      exact hk33 _ _ _ _ hS (lv_sub hl [1] rfl) h
    · have h := if_f h c1
      refine lv_iload_n hx hb dX1_bytes_9 rfl (lv_at hl 1 rfl) ?_
      refine lv_iload_n hx hb dX1_bytes_10 rfl (lv_at hl 0 rfl) ?_
      refine lv_iload_n hx hb dX1_bytes_11 rfl (lv_at hl 2 rfl) ?_
      refine lv_ishr hx hb dX1_bytes_12 ?_
      refine lv_sipush (v := (255 : Int32)) hx hb dX1_bytes_13 (by decide) ?_
      refine lv_iand hx hb dX1_bytes_16 ?_
      obtain ⟨x3, hp4, h⟩ := bnd_el h
      have K4 : ∀ (H : Heap) (locs : List Loc) (ls : Array Slot), St D A ad S σ s.heap H locs → lv_has ls 3 [(0, .int u0), (2, .int v2)] → W p l e rm_X1_bytes s m args below meth c H locs 0 0 (MQ below (QG D A ad S (some (.int r)) σ) args s 0 0 A) (F0 m 25 ls [.int x3, .int v1]) := by
        intro H locs ls hS hl
        refine lv_iadd hx hb dX1_bytes_25 ?_
        refine h_leti h (fun x5 h => ?_)
        refine lv_istore_n (lv' := [(1, .int x5), (0, .int u0), (2, .int v2)]) hx hb dX1_bytes_26 rfl hl (by decide) rfl (fun ls hl => ?_)
        refine lv_iinc (v := (v2 + (-8 : Int32))) (lv' := [(2, .int (v2 + (-8 : Int32))), (1, .int x5), (0, .int u0)]) hx hb dX1_bytes_27 hl (k := 2) rfl rfl (by decide) rfl (fun ls hl => ?_)
        refine lv_goto (tgt := 5) hx hb dX1_bytes_30 (by decide) ?_
        exact ih _ _ _ _ _ hS (lv_sub hl [2, 1, 0] rfl) h
      clear h
      have h := hp4
      clear hp4
      refine lv_if_eq (tgt := 24) hx hb dX1_bytes_17 (by decide) (fun c2 => ?_) (fun c2 => ?_)
      · have h := if_t h c2
        refine lv_iconst (v := (0 : Int32)) hx hb dX1_bytes_24 (by decide) ?_
        cases h
        exact K4 _ _ _ hS (lv_sub hl [0, 2] rfl)
      · have h := if_f h c2
        refine lv_iconst (v := (1 : Int32)) hx hb dX1_bytes_20 (by decide) ?_
        refine lv_goto (tgt := 25) hx hb dX1_bytes_21 (by decide) ?_
        cases h
        exact K4 _ _ _ hS (lv_sub hl [0, 2] rfl)
set_option maxRecDepth 100000 in
set_option maxHeartbeats 4000000 in
theorem w_X1_bytes {a1 : Int32} {r : Int32} (h : f_X1_bytes σ a1 = some r) : Met l yX1_bytes (ws_ yX1_bytes cX1_bytes 3 (some .int)) rm_X1_bytes (va_Pc [.int a1] (PreG D (Ew D A) A ad S σ)) (QG D A ad S (some (.int r)) σ) 0 0 A := by
  refine y_met (by decide) (Nat.le_of_ble_eq_true rfl) (fun p e s m below meth c ls Z hS hl => ?_)
  have hx := Z.1
  have hb := Z.2.1
  have hown := Z.2.2.2.2.2.1
  have hts := Z.2.2.2.2.2.2.1
  unfold f_X1_bytes at h
  refine lv_iconst (v := (0 : Int32)) hx hb dX1_bytes_0 (by decide) ?_
  refine lv_istore_n (lv' := [(1, .int (0 : Int32)), (0, .int a1)]) hx hb dX1_bytes_1 rfl hl (by decide) rfl (fun ls hl => ?_)
  refine lv_bipush (v := (24 : Int32)) hx hb dX1_bytes_2 (by decide) ?_
  refine lv_istore_n (lv' := [(2, .int (24 : Int32)), (1, .int (0 : Int32)), (0, .int a1)]) hx hb dX1_bytes_4 rfl hl (by decide) rfl (fun ls hl => ?_)
  refine w_X1_bytes_L5 Z (fun x6 H locs ls hS hl h => ?_) FU _ _ _ _ _ hS (lv_sub hl [2, 1, 0] rfl) h
  refine lv_iload_n hx hb dX1_bytes_33 rfl (lv_at hl 0 rfl) ?_
  exact h_iret Z hS dX1_bytes_34 h
end
theorem dX1_put_0 : decode cX1_put 0 = .ok (.bipush 24, 2) := by decide +kernel
theorem dX1_put_2 : decode cX1_put 2 = .ok (.istore_n 2, 1) := by decide +kernel
theorem dX1_put_3 : decode cX1_put 3 = .ok (.iload_n 2, 1) := by decide +kernel
theorem dX1_put_4 : decode cX1_put 4 = .ok (.ifCond .lt 45, 3) := by decide +kernel
theorem dX1_put_7 : decode cX1_put 7 = .ok (.iload_n 1, 1) := by decide +kernel
theorem dX1_put_8 : decode cX1_put 8 = .ok (.iload_n 2, 1) := by decide +kernel
theorem dX1_put_9 : decode cX1_put 9 = .ok (.ishr, 1) := by decide +kernel
theorem dX1_put_10 : decode cX1_put 10 = .ok (.sipush 255, 3) := by decide +kernel
theorem dX1_put_13 : decode cX1_put 13 = .ok (.iand, 1) := by decide +kernel
theorem dX1_put_14 : decode cX1_put 14 = .ok (.ifCond .ne 6, 3) := by decide +kernel
theorem dX1_put_17 : decode cX1_put 17 = .ok (.goto 26, 3) := by decide +kernel
theorem dX1_put_20 : decode cX1_put 20 = .ok (.aload_n 0, 1) := by decide +kernel
theorem dX1_put_21 : decode cX1_put 21 = .ok (.getfield 28, 3) := by decide +kernel
theorem dX1_put_24 : decode cX1_put 24 = .ok (.aload_n 0, 1) := by decide +kernel
theorem dX1_put_25 : decode cX1_put 25 = .ok (.getfield 245, 3) := by decide +kernel
theorem dX1_put_28 : decode cX1_put 28 = .ok (.iload_n 1, 1) := by decide +kernel
theorem dX1_put_29 : decode cX1_put 29 = .ok (.iload_n 2, 1) := by decide +kernel
theorem dX1_put_30 : decode cX1_put 30 = .ok (.ishr, 1) := by decide +kernel
theorem dX1_put_31 : decode cX1_put 31 = .ok (.i2b, 1) := by decide +kernel
theorem dX1_put_32 : decode cX1_put 32 = .ok (.bastore, 1) := by decide +kernel
theorem dX1_put_33 : decode cX1_put 33 = .ok (.aload_n 0, 1) := by decide +kernel
theorem dX1_put_34 : decode cX1_put 34 = .ok (.dup, 1) := by decide +kernel
theorem dX1_put_35 : decode cX1_put 35 = .ok (.getfield 245, 3) := by decide +kernel
theorem dX1_put_38 : decode cX1_put 38 = .ok (.iconst 1, 1) := by decide +kernel
theorem dX1_put_39 : decode cX1_put 39 = .ok (.iadd, 1) := by decide +kernel
theorem dX1_put_40 : decode cX1_put 40 = .ok (.putfield 245, 3) := by decide +kernel
theorem dX1_put_43 : decode cX1_put 43 = .ok (.iinc 2 (-8), 3) := by decide +kernel
theorem dX1_put_46 : decode cX1_put 46 = .ok (.goto (-43), 3) := by decide +kernel
theorem dX1_put_49 : decode cX1_put 49 = .ok (.return_, 1) := by decide +kernel
abbrev rm_X1_put : Room := k2_rm 0 0
section
variable {p : Program} {l : Launch} {e : Env} {s : State} {m : MethodId} {args : Array Value} {below : List Frame} {meth : Method} {c : Code} {D : gD} {A : Nat → Prop} {ad : Nat → Nat} {S : Nat → Nat × Nat} {σ : Mem}
set_option maxRecDepth 100000 in
set_option maxHeartbeats 4000000 in
theorem w_X1_put_L3 (Z : Cz D (Ew D A) A cX1_put 3 none RX1 p s m args meth c) {u1 : Int32} (hu0 : S 0 = (10, 0)) {r : Mem} {k49 : Mem → Option Mem}
    (hk49 : ∀ (σ : Mem)  (H : Heap) (locs : List Loc) (ls : Array Slot), St D A ad S σ s.heap H locs → lv_has ls 3 [] → k49 σ = some r → W p l e rm_X1_put s m args below meth c H locs 0 0 (MQ below (QG D A ad S none r) args s 0 0 A) (F0 m 49 ls [])) :
    ∀ (n : Nat) (σ : Mem) (v2 : Int32) (H : Heap) (locs : List Loc) (ls : Array Slot), St D A ad S σ s.heap H locs → lv_has ls 3 [(0, .ref (ad 0)), (1, .int u1), (2, .int v2)] → f_X1_put_L3 k49 u1 n σ v2 = some r → W p l e rm_X1_put s m args below meth c H locs 0 0 (MQ below (QG D A ad S none r) args s 0 0 A) (F0 m 3 ls []) := by
  have hx := Z.1
  have hb := Z.2.1
  have hown := Z.2.2.2.2.2.1
  have hts := Z.2.2.2.2.2.2.1
  intro n
  induction n with
  | zero => intro σ v2 H locs ls hS hl h; cases h
  | succ n ih =>
    intro σ v2 H locs ls hS hl h
    unfold f_X1_put_L3 at h
    refine lv_iload_n hx hb dX1_put_3 rfl (lv_at hl 2 rfl) ?_
    refine lv_if_lt (tgt := 49) hx hb dX1_put_4 (by decide) (fun c1 => ?_) (fun c1 => ?_)
    · have h := if_t h c1
      exact hk49 _ _ _ _ hS (lv_sub hl [] rfl) h
    · have h := if_f h c1
      refine lv_iload_n hx hb dX1_put_7 rfl (lv_at hl 1 rfl) ?_
      refine lv_iload_n hx hb dX1_put_8 rfl (lv_at hl 2 rfl) ?_
      refine lv_ishr hx hb dX1_put_9 ?_
      refine lv_sipush (v := (255 : Int32)) hx hb dX1_put_10 (by decide) ?_
      refine lv_iand hx hb dX1_put_13 ?_
      refine lv_if_ne (tgt := 20) hx hb dX1_put_14 (by decide) (fun c2 => ?_) (fun c2 => ?_)
      · have h := if_f h c2
        refine lv_aload_n hx hb dX1_put_20 rfl (lv_at hl 0 rfl) ?_
        refine h_getC (n := 5) (j := 5) (sh := (2, 160)) Z hS cls_0 hu0 (by decide) rfl rfl rfl fl_X1_28_0 dX1_put_21 (fun hc3 => ?_)
        refine lv_aload_n hx hb dX1_put_24 rfl (lv_at hl 0 rfl) ?_
        refine h_getI Z hS cls_0 hu0 (by decide) rfl fl_X1_245_0 dX1_put_25 h (fun x4 h => ?_)
        refine lv_iload_n hx hb dX1_put_28 rfl (lv_at hl 1 rfl) ?_
        refine lv_iload_n hx hb dX1_put_29 rfl (lv_at hl 2 rfl) ?_
        refine lv_ishr hx hb dX1_put_30 ?_
        refine lv_i2b hx hb dX1_put_31 rfl ?_
        refine h_bast Z hS hc3 dX1_put_32 h (fun σ5 H locs hS h => ?_)
        refine lv_aload_n hx hb dX1_put_33 rfl (lv_at hl 0 rfl) ?_
        refine lv_dup hx hb dX1_put_34 rfl ?_
        refine h_getI Z hS cls_0 hu0 (by decide) rfl fl_X1_245_0 dX1_put_35 h (fun x6 h => ?_)
        refine lv_iconst (v := (1 : Int32)) hx hb dX1_put_38 (by decide) ?_
        refine lv_iadd hx hb dX1_put_39 ?_
        refine h_putI Z hS cls_0 hu0 (by decide) rfl rfl rfl fl_X1_245_0 dX1_put_40 h (fun σ7 H locs hS h => ?_)
        refine lv_iinc (v := (v2 + (-8 : Int32))) (lv' := [(2, .int (v2 + (-8 : Int32))), (0, .ref (ad 0)), (1, .int u1)]) hx hb dX1_put_43 hl (k := 2) rfl rfl (by decide) rfl (fun ls hl => ?_)
        refine lv_goto (tgt := 3) hx hb dX1_put_46 (by decide) ?_
        exact ih _ _ _ _ _ hS (lv_sub hl [1, 2, 0] rfl) h
      · have h := if_t h c2
        refine lv_goto (tgt := 43) hx hb dX1_put_17 (by decide) ?_
        refine lv_iinc (v := (v2 + (-8 : Int32))) (lv' := [(2, .int (v2 + (-8 : Int32))), (0, .ref (ad 0)), (1, .int u1)]) hx hb dX1_put_43 hl (k := 2) rfl rfl (by decide) rfl (fun ls hl => ?_)
        refine lv_goto (tgt := 3) hx hb dX1_put_46 (by decide) ?_
        exact ih _ _ _ _ _ hS (lv_sub hl [1, 2, 0] rfl) h
set_option maxRecDepth 100000 in
set_option maxHeartbeats 4000000 in
theorem w_X1_put {a1 : Int32} (hi0 : S 0 = (10, 0)) {r : Mem} (h : f_X1_put σ a1 = some r) : Met l yX1_put (ws_ yX1_put cX1_put 3 none) rm_X1_put (va_Pc [.ref (ad 0), .int a1] (PreG D (Ew D A) A ad S σ)) (QG D A ad S none r) 0 0 A := by
  refine y_met (by decide) (Nat.le_of_ble_eq_true rfl) (fun p e s m below meth c ls Z hS hl => ?_)
  have hx := Z.1
  have hb := Z.2.1
  have hown := Z.2.2.2.2.2.1
  have hts := Z.2.2.2.2.2.2.1
  unfold f_X1_put at h
  refine lv_bipush (v := (24 : Int32)) hx hb dX1_put_0 (by decide) ?_
  refine lv_istore_n (lv' := [(2, .int (24 : Int32)), (0, .ref (ad 0)), (1, .int a1)]) hx hb dX1_put_2 rfl hl (by decide) rfl (fun ls hl => ?_)
  refine w_X1_put_L3 Z hi0 (fun σ8 H locs ls hS hl h => ?_) FU _ _ _ _ _ hS (lv_sub hl [1, 2, 0] rfl) h
  exact h_vret Z hS dX1_put_49 h
end
theorem dX1_feed_0 : decode cX1_feed 0 = .ok (.iload_n 1, 1) := by decide +kernel
theorem dX1_feed_1 : decode cX1_feed 1 = .ok (.invokestatic 242, 3) := by decide +kernel
theorem dX1_feed_4 : decode cX1_feed 4 = .ok (.iload_n 2, 1) := by decide +kernel
theorem dX1_feed_5 : decode cX1_feed 5 = .ok (.invokestatic 242, 3) := by decide +kernel
theorem dX1_feed_8 : decode cX1_feed 8 = .ok (.iadd, 1) := by decide +kernel
theorem dX1_feed_9 : decode cX1_feed 9 = .ok (.iload_n 3, 1) := by decide +kernel
theorem dX1_feed_10 : decode cX1_feed 10 = .ok (.invokestatic 242, 3) := by decide +kernel
theorem dX1_feed_13 : decode cX1_feed 13 = .ok (.iadd, 1) := by decide +kernel
theorem dX1_feed_14 : decode cX1_feed 14 = .ok (.iload 4, 2) := by decide +kernel
theorem dX1_feed_16 : decode cX1_feed 16 = .ok (.invokestatic 242, 3) := by decide +kernel
theorem dX1_feed_19 : decode cX1_feed 19 = .ok (.iadd, 1) := by decide +kernel
theorem dX1_feed_20 : decode cX1_feed 20 = .ok (.iload 5, 2) := by decide +kernel
theorem dX1_feed_22 : decode cX1_feed 22 = .ok (.invokestatic 242, 3) := by decide +kernel
theorem dX1_feed_25 : decode cX1_feed 25 = .ok (.iadd, 1) := by decide +kernel
theorem dX1_feed_26 : decode cX1_feed 26 = .ok (.istore 6, 2) := by decide +kernel
theorem dX1_feed_28 : decode cX1_feed 28 = .ok (.aload_n 0, 1) := by decide +kernel
theorem dX1_feed_29 : decode cX1_feed 29 = .ok (.getfield 245, 3) := by decide +kernel
theorem dX1_feed_32 : decode cX1_feed 32 = .ok (.iload 6, 2) := by decide +kernel
theorem dX1_feed_34 : decode cX1_feed 34 = .ok (.iadd, 1) := by decide +kernel
theorem dX1_feed_35 : decode cX1_feed 35 = .ok (.sipush 160, 3) := by decide +kernel
theorem dX1_feed_38 : decode cX1_feed 38 = .ok (.if_icmp .le 5, 3) := by decide +kernel
theorem dX1_feed_41 : decode cX1_feed 41 = .ok (.iconst (-1), 1) := by decide +kernel
theorem dX1_feed_42 : decode cX1_feed 42 = .ok (.ireturn, 1) := by decide +kernel
theorem dX1_feed_43 : decode cX1_feed 43 = .ok (.aload_n 0, 1) := by decide +kernel
theorem dX1_feed_44 : decode cX1_feed 44 = .ok (.iload_n 1, 1) := by decide +kernel
theorem dX1_feed_45 : decode cX1_feed 45 = .ok (.invokevirtual 248, 3) := by decide +kernel
theorem dX1_feed_48 : decode cX1_feed 48 = .ok (.aload_n 0, 1) := by decide +kernel
theorem dX1_feed_49 : decode cX1_feed 49 = .ok (.iload_n 2, 1) := by decide +kernel
theorem dX1_feed_50 : decode cX1_feed 50 = .ok (.invokevirtual 248, 3) := by decide +kernel
theorem dX1_feed_53 : decode cX1_feed 53 = .ok (.aload_n 0, 1) := by decide +kernel
theorem dX1_feed_54 : decode cX1_feed 54 = .ok (.iload_n 3, 1) := by decide +kernel
theorem dX1_feed_55 : decode cX1_feed 55 = .ok (.invokevirtual 248, 3) := by decide +kernel
theorem dX1_feed_58 : decode cX1_feed 58 = .ok (.aload_n 0, 1) := by decide +kernel
theorem dX1_feed_59 : decode cX1_feed 59 = .ok (.iload 4, 2) := by decide +kernel
theorem dX1_feed_61 : decode cX1_feed 61 = .ok (.invokevirtual 248, 3) := by decide +kernel
theorem dX1_feed_64 : decode cX1_feed 64 = .ok (.aload_n 0, 1) := by decide +kernel
theorem dX1_feed_65 : decode cX1_feed 65 = .ok (.iload 5, 2) := by decide +kernel
theorem dX1_feed_67 : decode cX1_feed 67 = .ok (.invokevirtual 248, 3) := by decide +kernel
theorem dX1_feed_70 : decode cX1_feed 70 = .ok (.aload_n 0, 1) := by decide +kernel
theorem dX1_feed_71 : decode cX1_feed 71 = .ok (.getfield 245, 3) := by decide +kernel
theorem dX1_feed_74 : decode cX1_feed 74 = .ok (.ireturn, 1) := by decide +kernel
abbrev rm_X1_feed : Room := k2_rm 1 22
section
variable {p : Program} {l : Launch} {e : Env} {s : State} {m : MethodId} {args : Array Value} {below : List Frame} {meth : Method} {c : Code} {D : gD} {A : Nat → Prop} {ad : Nat → Nat} {S : Nat → Nat × Nat} {σ : Mem}
set_option maxRecDepth 100000 in
set_option maxHeartbeats 4000000 in
theorem w_X1_feed {a1 : Int32} {a2 : Int32} {a3 : Int32} {a4 : Int32} {a5 : Int32} (hi0 : S 0 = (10, 0)) {r : (Mem × Int32)} (h : f_X1_feed σ a1 a2 a3 a4 a5 = some r) : Met l yX1_feed (ws_ yX1_feed cX1_feed 7 (some .int)) rm_X1_feed (va_Pc [.ref (ad 0), .int a1, .int a2, .int a3, .int a4, .int a5] (PreG D (Ew D A) A ad S σ)) (QG D A ad S (some (.int r.2)) r.1) 0 0 A := by
  refine y_met (by decide) (Nat.le_of_ble_eq_true rfl) (fun p e s m below meth c ls Z hS hl => ?_)
  have hx := Z.1
  have hb := Z.2.1
  have hown := Z.2.2.2.2.2.1
  have hts := Z.2.2.2.2.2.2.1
  unfold f_X1_feed at h
  refine lv_iload_n hx hb dX1_feed_0 rfl (lv_at hl 1 rfl) ?_
  refine h_ci hS h (fun z hz => h_rS (rest := []) Z hS v_X1_242 (w_X1_bytes hz) rfl rfl ⟨by decide, by decide⟩ rfl hl.1 rfl (Nat.le_of_ble_eq_true rfl) (Nat.zero_le _) (Nat.zero_le _) dX1_feed_1) (fun x1 H locs hS h => ?_)
  refine lv_iload_n hx hb dX1_feed_4 rfl (lv_at hl 2 rfl) ?_
  refine h_ci hS h (fun z hz => h_rS (rest := [.int x1]) Z hS v_X1_242 (w_X1_bytes hz) rfl rfl ⟨by decide, by decide⟩ rfl hl.1 rfl (Nat.le_of_ble_eq_true rfl) (Nat.zero_le _) (Nat.zero_le _) dX1_feed_5) (fun x2 H locs hS h => ?_)
  refine lv_iadd hx hb dX1_feed_8 ?_
  refine lv_iload_n hx hb dX1_feed_9 rfl (lv_at hl 3 rfl) ?_
  refine h_ci hS h (fun z hz => h_rS (rest := [.int (x1 + x2)]) Z hS v_X1_242 (w_X1_bytes hz) rfl rfl ⟨by decide, by decide⟩ rfl hl.1 rfl (Nat.le_of_ble_eq_true rfl) (Nat.zero_le _) (Nat.zero_le _) dX1_feed_10) (fun x3 H locs hS h => ?_)
  refine lv_iadd hx hb dX1_feed_13 ?_
  refine lv_iload hx hb dX1_feed_14 (lv_at hl 4 rfl) ?_
  refine h_ci hS h (fun z hz => h_rS (rest := [.int ((x1 + x2) + x3)]) Z hS v_X1_242 (w_X1_bytes hz) rfl rfl ⟨by decide, by decide⟩ rfl hl.1 rfl (Nat.le_of_ble_eq_true rfl) (Nat.zero_le _) (Nat.zero_le _) dX1_feed_16) (fun x4 H locs hS h => ?_)
  refine lv_iadd hx hb dX1_feed_19 ?_
  refine lv_iload hx hb dX1_feed_20 (lv_at hl 5 rfl) ?_
  refine h_ci hS h (fun z hz => h_rS (rest := [.int (((x1 + x2) + x3) + x4)]) Z hS v_X1_242 (w_X1_bytes hz) rfl rfl ⟨by decide, by decide⟩ rfl hl.1 rfl (Nat.le_of_ble_eq_true rfl) (Nat.zero_le _) (Nat.zero_le _) dX1_feed_22) (fun x5 H locs hS h => ?_)
  refine lv_iadd hx hb dX1_feed_25 ?_
  refine h_leti h (fun x6 h => ?_)
  refine lv_istore (lv' := [(6, .int x6), (0, .ref (ad 0)), (1, .int a1), (2, .int a2), (3, .int a3), (4, .int a4), (5, .int a5)]) hx hb dX1_feed_26 hl (by decide) rfl (fun ls hl => ?_)
  refine lv_aload_n hx hb dX1_feed_28 rfl (lv_at hl 1 rfl) ?_
  refine h_getI Z hS cls_0 hi0 (by decide) rfl fl_X1_245_0 dX1_feed_29 h (fun x7 h => ?_)
  refine lv_iload hx hb dX1_feed_32 (lv_at hl 0 rfl) ?_
  refine lv_iadd hx hb dX1_feed_34 ?_
  refine lv_sipush (v := (160 : Int32)) hx hb dX1_feed_35 (by decide) ?_
  refine lv_icmp_le (tgt := 43) hx hb dX1_feed_38 (by decide) (fun c8 => ?_) (fun c8 => ?_)
  · have h := if_t h c8
    refine lv_aload_n hx hb dX1_feed_43 rfl (lv_at hl 1 rfl) ?_
    refine lv_iload_n hx hb dX1_feed_44 rfl (lv_at hl 2 rfl) ?_
    refine h_cm hS h (fun z hz => h_rV (rest := []) Z hS hi0 rfl v_X1_248 (w_X1_put hi0 hz) rfl rfl ⟨by decide, by decide⟩ rfl hl.1 rfl (Nat.le_of_ble_eq_true rfl) (Nat.zero_le _) (Nat.zero_le _) dX1_feed_45) (fun σ9 H locs hS h => ?_)
    refine lv_aload_n hx hb dX1_feed_48 rfl (lv_at hl 1 rfl) ?_
    refine lv_iload_n hx hb dX1_feed_49 rfl (lv_at hl 3 rfl) ?_
    refine h_cm hS h (fun z hz => h_rV (rest := []) Z hS hi0 rfl v_X1_248 (w_X1_put hi0 hz) rfl rfl ⟨by decide, by decide⟩ rfl hl.1 rfl (Nat.le_of_ble_eq_true rfl) (Nat.zero_le _) (Nat.zero_le _) dX1_feed_50) (fun σ10 H locs hS h => ?_)
    refine lv_aload_n hx hb dX1_feed_53 rfl (lv_at hl 1 rfl) ?_
    refine lv_iload_n hx hb dX1_feed_54 rfl (lv_at hl 4 rfl) ?_
    refine h_cm hS h (fun z hz => h_rV (rest := []) Z hS hi0 rfl v_X1_248 (w_X1_put hi0 hz) rfl rfl ⟨by decide, by decide⟩ rfl hl.1 rfl (Nat.le_of_ble_eq_true rfl) (Nat.zero_le _) (Nat.zero_le _) dX1_feed_55) (fun σ11 H locs hS h => ?_)
    refine lv_aload_n hx hb dX1_feed_58 rfl (lv_at hl 1 rfl) ?_
    refine lv_iload hx hb dX1_feed_59 (lv_at hl 5 rfl) ?_
    refine h_cm hS h (fun z hz => h_rV (rest := []) Z hS hi0 rfl v_X1_248 (w_X1_put hi0 hz) rfl rfl ⟨by decide, by decide⟩ rfl hl.1 rfl (Nat.le_of_ble_eq_true rfl) (Nat.zero_le _) (Nat.zero_le _) dX1_feed_61) (fun σ12 H locs hS h => ?_)
    refine lv_aload_n hx hb dX1_feed_64 rfl (lv_at hl 1 rfl) ?_
    refine lv_iload hx hb dX1_feed_65 (lv_at hl 6 rfl) ?_
    refine h_cm hS h (fun z hz => h_rV (rest := []) Z hS hi0 rfl v_X1_248 (w_X1_put hi0 hz) rfl rfl ⟨by decide, by decide⟩ rfl hl.1 rfl (Nat.le_of_ble_eq_true rfl) (Nat.zero_le _) (Nat.zero_le _) dX1_feed_67) (fun σ13 H locs hS h => ?_)
    refine lv_aload_n hx hb dX1_feed_70 rfl (lv_at hl 1 rfl) ?_
    refine h_getI Z hS cls_0 hi0 (by decide) rfl fl_X1_245_0 dX1_feed_71 h (fun x14 h => ?_)
    exact h_iretm Z hS dX1_feed_74 h
  · have h := if_f h c8
    refine lv_iconst (v := (-1 : Int32)) hx hb dX1_feed_41 (by decide) ?_
    exact h_iretm Z hS dX1_feed_42 h
end
theorem dX1_end_0 : decode cX1_end 0 = .ok (.iload_n 1, 1) := by decide +kernel
theorem dX1_end_1 : decode cX1_end 1 = .ok (.ifCond .lt 11, 3) := by decide +kernel
theorem dX1_end_4 : decode cX1_end 4 = .ok (.iload_n 1, 1) := by decide +kernel
theorem dX1_end_5 : decode cX1_end 5 = .ok (.aload_n 0, 1) := by decide +kernel
theorem dX1_end_6 : decode cX1_end 6 = .ok (.getfield 245, 3) := by decide +kernel
theorem dX1_end_9 : decode cX1_end 9 = .ok (.if_icmp .le 5, 3) := by decide +kernel
theorem dX1_end_12 : decode cX1_end 12 = .ok (.iconst 0, 1) := by decide +kernel
theorem dX1_end_13 : decode cX1_end 13 = .ok (.ireturn, 1) := by decide +kernel
theorem dX1_end_14 : decode cX1_end 14 = .ok (.aload_n 0, 1) := by decide +kernel
theorem dX1_end_15 : decode cX1_end 15 = .ok (.iload_n 1, 1) := by decide +kernel
theorem dX1_end_16 : decode cX1_end 16 = .ok (.putfield 245, 3) := by decide +kernel
theorem dX1_end_19 : decode cX1_end 19 = .ok (.iconst 1, 1) := by decide +kernel
theorem dX1_end_20 : decode cX1_end 20 = .ok (.ireturn, 1) := by decide +kernel
abbrev rm_X1_end : Room := k2_rm 0 0
section
variable {p : Program} {l : Launch} {e : Env} {s : State} {m : MethodId} {args : Array Value} {below : List Frame} {meth : Method} {c : Code} {D : gD} {A : Nat → Prop} {ad : Nat → Nat} {S : Nat → Nat × Nat} {σ : Mem}
set_option maxRecDepth 100000 in
set_option maxHeartbeats 4000000 in
theorem w_X1_end {a1 : Int32} (hi0 : S 0 = (10, 0)) {r : (Mem × Int32)} (h : f_X1_end σ a1 = some r) : Met l yX1_end (ws_ yX1_end cX1_end 2 (some .boolean)) rm_X1_end (va_Pc [.ref (ad 0), .int a1] (PreG D (Ew D A) A ad S σ)) (QG D A ad S (some (.int r.2)) r.1) 0 0 A := by
  refine y_met (by decide) (Nat.le_of_ble_eq_true rfl) (fun p e s m below meth c ls Z hS hl => ?_)
  have hx := Z.1
  have hb := Z.2.1
  have hown := Z.2.2.2.2.2.1
  have hts := Z.2.2.2.2.2.2.1
  unfold f_X1_end at h
  refine lv_iload_n hx hb dX1_end_0 rfl (lv_at hl 1 rfl) ?_
  refine lv_if_lt (tgt := 12) hx hb dX1_end_1 (by decide) (fun c1 => ?_) (fun c1 => ?_)
  · have h := if_t h c1
    refine lv_iconst (v := (0 : Int32)) hx hb dX1_end_12 (by decide) ?_
    exact h_zretm Z hS dX1_end_13 h
  · have h := if_f h c1
    refine lv_iload_n hx hb dX1_end_4 rfl (lv_at hl 1 rfl) ?_
    refine lv_aload_n hx hb dX1_end_5 rfl (lv_at hl 0 rfl) ?_
    refine h_getI Z hS cls_0 hi0 (by decide) rfl fl_X1_245_0 dX1_end_6 h (fun x2 h => ?_)
    refine lv_icmp_le (tgt := 14) hx hb dX1_end_9 (by decide) (fun c3 => ?_) (fun c3 => ?_)
    · have h := if_t h c3
      refine lv_aload_n hx hb dX1_end_14 rfl (lv_at hl 0 rfl) ?_
      refine lv_iload_n hx hb dX1_end_15 rfl (lv_at hl 1 rfl) ?_
      refine h_putI Z hS cls_0 hi0 (by decide) rfl rfl rfl fl_X1_245_0 dX1_end_16 h (fun σ4 H locs hS h => ?_)
      refine lv_iconst (v := (1 : Int32)) hx hb dX1_end_19 (by decide) ?_
      exact h_zretm Z hS dX1_end_20 h
    · have h := if_f h c3
      refine lv_iconst (v := (0 : Int32)) hx hb dX1_end_12 (by decide) ?_
      exact h_zretm Z hS dX1_end_13 h
end
theorem dX1_isText_0 : decode cX1_isText 0 = .ok (.iload_n 1, 1) := by decide +kernel
theorem dX1_isText_1 : decode cX1_isText 1 = .ok (.ifCond .lt 15, 3) := by decide +kernel
theorem dX1_isText_4 : decode cX1_isText 4 = .ok (.iload_n 1, 1) := by decide +kernel
theorem dX1_isText_5 : decode cX1_isText 5 = .ok (.aload_n 0, 1) := by decide +kernel
theorem dX1_isText_6 : decode cX1_isText 6 = .ok (.getfield 266, 3) := by decide +kernel
theorem dX1_isText_9 : decode cX1_isText 9 = .ok (.if_icmp .ge 7, 3) := by decide +kernel
theorem dX1_isText_12 : decode cX1_isText 12 = .ok (.iconst 1, 1) := by decide +kernel
theorem dX1_isText_13 : decode cX1_isText 13 = .ok (.goto 4, 3) := by decide +kernel
theorem dX1_isText_16 : decode cX1_isText 16 = .ok (.iconst 0, 1) := by decide +kernel
theorem dX1_isText_17 : decode cX1_isText 17 = .ok (.ireturn, 1) := by decide +kernel
abbrev rm_X1_isText : Room := k2_rm 0 0
section
variable {p : Program} {l : Launch} {e : Env} {s : State} {m : MethodId} {args : Array Value} {below : List Frame} {meth : Method} {c : Code} {D : gD} {A : Nat → Prop} {ad : Nat → Nat} {S : Nat → Nat × Nat} {σ : Mem}
set_option maxRecDepth 100000 in
set_option maxHeartbeats 4000000 in
theorem w_X1_isText {a1 : Int32} (hi0 : S 0 = (10, 0)) {r : Int32} (h : f_X1_isText σ a1 = some r) : Met l yX1_isText (ws_ yX1_isText cX1_isText 2 (some .boolean)) rm_X1_isText (va_Pc [.ref (ad 0), .int a1] (PreG D (Ew D A) A ad S σ)) (QG D A ad S (some (.int r)) σ) 0 0 A := by
  refine y_met (by decide) (Nat.le_of_ble_eq_true rfl) (fun p e s m below meth c ls Z hS hl => ?_)
  have hx := Z.1
  have hb := Z.2.1
  have hown := Z.2.2.2.2.2.1
  have hts := Z.2.2.2.2.2.2.1
  unfold f_X1_isText at h
  refine lv_iload_n hx hb dX1_isText_0 rfl (lv_at hl 1 rfl) ?_
  refine lv_if_lt (tgt := 16) hx hb dX1_isText_1 (by decide) (fun c1 => ?_) (fun c1 => ?_)
  · have h := if_t h c1
    refine lv_iconst (v := (0 : Int32)) hx hb dX1_isText_16 (by decide) ?_
    exact h_zret Z hS dX1_isText_17 h
  · have h := if_f h c1
    refine lv_iload_n hx hb dX1_isText_4 rfl (lv_at hl 1 rfl) ?_
    refine lv_aload_n hx hb dX1_isText_5 rfl (lv_at hl 0 rfl) ?_
    refine h_getI Z hS cls_0 hi0 (by decide) rfl fl_X1_266_0 dX1_isText_6 h (fun x2 h => ?_)
    refine lv_icmp_ge (tgt := 16) hx hb dX1_isText_9 (by decide) (fun c3 => ?_) (fun c3 => ?_)
    · have h := if_t h c3
      refine lv_iconst (v := (0 : Int32)) hx hb dX1_isText_16 (by decide) ?_
      exact h_zret Z hS dX1_isText_17 h
    · have h := if_f h c3
      refine lv_iconst (v := (1 : Int32)) hx hb dX1_isText_12 (by decide) ?_
      refine lv_goto (tgt := 17) hx hb dX1_isText_13 (by decide) ?_
      exact h_zret Z hS dX1_isText_17 h
end
theorem dX1_rule_0 : decode cX1_rule 0 = .ok (.aload_n 0, 1) := by decide +kernel
theorem dX1_rule_1 : decode cX1_rule 1 = .ok (.iload_n 1, 1) := by decide +kernel
theorem dX1_rule_2 : decode cX1_rule 2 = .ok (.invokevirtual 144, 3) := by decide +kernel
theorem dX1_rule_5 : decode cX1_rule 5 = .ok (.ifCond .eq 16, 3) := by decide +kernel
theorem dX1_rule_8 : decode cX1_rule 8 = .ok (.iload_n 2, 1) := by decide +kernel
theorem dX1_rule_9 : decode cX1_rule 9 = .ok (.iconst (-1), 1) := by decide +kernel
theorem dX1_rule_10 : decode cX1_rule 10 = .ok (.if_icmp .eq 13, 3) := by decide +kernel
theorem dX1_rule_13 : decode cX1_rule 13 = .ok (.aload_n 0, 1) := by decide +kernel
theorem dX1_rule_14 : decode cX1_rule 14 = .ok (.iload_n 2, 1) := by decide +kernel
theorem dX1_rule_15 : decode cX1_rule 15 = .ok (.invokevirtual 269, 3) := by decide +kernel
theorem dX1_rule_18 : decode cX1_rule 18 = .ok (.ifCond .ne 5, 3) := by decide +kernel
theorem dX1_rule_21 : decode cX1_rule 21 = .ok (.iconst 0, 1) := by decide +kernel
theorem dX1_rule_22 : decode cX1_rule 22 = .ok (.ireturn, 1) := by decide +kernel
theorem dX1_rule_23 : decode cX1_rule 23 = .ok (.aload_n 0, 1) := by decide +kernel
theorem dX1_rule_24 : decode cX1_rule 24 = .ok (.getfield 24, 3) := by decide +kernel
theorem dX1_rule_27 : decode cX1_rule 27 = .ok (.iload_n 1, 1) := by decide +kernel
theorem dX1_rule_28 : decode cX1_rule 28 = .ok (.aaload, 1) := by decide +kernel
theorem dX1_rule_29 : decode cX1_rule 29 = .ok (.iload_n 2, 1) := by decide +kernel
theorem dX1_rule_30 : decode cX1_rule 30 = .ok (.iconst (-1), 1) := by decide +kernel
theorem dX1_rule_31 : decode cX1_rule 31 = .ok (.if_icmp .ne 7, 3) := by decide +kernel
theorem dX1_rule_34 : decode cX1_rule 34 = .ok (.aconst_null, 1) := by decide +kernel
theorem dX1_rule_35 : decode cX1_rule 35 = .ok (.goto 9, 3) := by decide +kernel
theorem dX1_rule_38 : decode cX1_rule 38 = .ok (.aload_n 0, 1) := by decide +kernel
theorem dX1_rule_39 : decode cX1_rule 39 = .ok (.getfield 34, 3) := by decide +kernel
theorem dX1_rule_42 : decode cX1_rule 42 = .ok (.iload_n 2, 1) := by decide +kernel
theorem dX1_rule_43 : decode cX1_rule 43 = .ok (.aaload, 1) := by decide +kernel
theorem dX1_rule_44 : decode cX1_rule 44 = .ok (.putfield 272, 3) := by decide +kernel
theorem dX1_rule_47 : decode cX1_rule 47 = .ok (.iconst 1, 1) := by decide +kernel
theorem dX1_rule_48 : decode cX1_rule 48 = .ok (.ireturn, 1) := by decide +kernel
abbrev rm_X1_rule : Room := k2_rm 1 21
section
variable {p : Program} {l : Launch} {e : Env} {s : State} {m : MethodId} {args : Array Value} {below : List Frame} {meth : Method} {c : Code} {D : gD} {A : Nat → Prop} {ad : Nat → Nat} {S : Nat → Nat × Nat} {σ : Mem}
set_option maxRecDepth 100000 in
set_option maxHeartbeats 4000000 in
theorem w_X1_rule {a1 : Int32} {a2 : Int32} (hi0 : S 0 = (10, 0)) {r : (Mem × Int32)} (h : f_X1_rule σ a1 a2 = some r) : Met l yX1_rule (ws_ yX1_rule cX1_rule 3 (some .boolean)) rm_X1_rule (va_Pc [.ref (ad 0), .int a1, .int a2] (PreG D (Ew D A) A ad S σ)) (QG D A ad S (some (.int r.2)) r.1) 0 0 A := by
  refine y_met (by decide) (Nat.le_of_ble_eq_true rfl) (fun p e s m below meth c ls Z hS hl => ?_)
  have hx := Z.1
  have hb := Z.2.1
  have hown := Z.2.2.2.2.2.1
  have hts := Z.2.2.2.2.2.2.1
  unfold f_X1_rule at h
  refine lv_aload_n hx hb dX1_rule_0 rfl (lv_at hl 0 rfl) ?_
  refine lv_iload_n hx hb dX1_rule_1 rfl (lv_at hl 1 rfl) ?_
  refine h_ci hS h (fun z hz => h_rV (rest := []) Z hS hi0 rfl v_X1_144 (w_X1_isFilter hi0 hz) rfl rfl ⟨by decide, by decide⟩ rfl hl.1 rfl (Nat.le_of_ble_eq_true rfl) (Nat.zero_le _) (Nat.zero_le _) dX1_rule_2) (fun x1 H locs hS h => ?_)
  refine lv_if_eq (tgt := 21) hx hb dX1_rule_5 (by decide) (fun c2 => ?_) (fun c2 => ?_)
  · have h := if_t h c2
    refine lv_iconst (v := (0 : Int32)) hx hb dX1_rule_21 (by decide) ?_
    exact h_zretm Z hS dX1_rule_22 h
  · have h := if_f h c2
    refine lv_iload_n hx hb dX1_rule_8 rfl (lv_at hl 2 rfl) ?_
    refine lv_iconst (v := (-1 : Int32)) hx hb dX1_rule_9 (by decide) ?_
    refine lv_icmp_eq (tgt := 23) hx hb dX1_rule_10 (by decide) (fun c3 => ?_) (fun c3 => ?_)
    · have h := if_t h c3
      refine lv_aload_n hx hb dX1_rule_23 rfl (lv_at hl 0 rfl) ?_
      refine h_getC (n := 3) (j := 3) (sh := (5, 8)) Z hS cls_0 hi0 (by decide) rfl rfl rfl fl_X1_24_0 dX1_rule_24 (fun hc4 => ?_)
      refine lv_iload_n hx hb dX1_rule_27 rfl (lv_at hl 1 rfl) ?_
      refine h_aldN (sh := (12, 0)) Z hS hc4 (by decide) (by decide) rfl dX1_rule_28 h (fun j5 hj5 h => ?_)
      refine lv_iload_n hx hb dX1_rule_29 rfl (lv_at hl 2 rfl) ?_
      refine lv_iconst (v := (-1 : Int32)) hx hb dX1_rule_30 (by decide) ?_
      refine lv_icmp_ne (tgt := 38) hx hb dX1_rule_31 (by decide) (fun c6 => ?_) (fun c6 => ?_)
      · have h := if_f h c6
        refine lv_aload_n hx hb dX1_rule_38 rfl (lv_at hl 0 rfl) ?_
        refine h_getC (n := 6) (j := 6) (sh := (7, 12)) Z hS cls_0 hi0 (by decide) rfl rfl rfl fl_X1_34_0 dX1_rule_39 (fun hc8 => ?_)
        refine lv_iload_n hx hb dX1_rule_42 rfl (lv_at hl 2 rfl) ?_
        refine h_aldN (sh := (23, 0)) Z hS hc8 (by decide) (by decide) rfl dX1_rule_43 h (fun j9 hj9 h => ?_)
        refine h_putR (v := (some j9)) Z hS cls_2 hj5 (by decide) rfl rfl rfl rfl (fun t ht => by cases ht; rw [hj9]; decide) fl_X1_272_2 dX1_rule_44 h (fun σ10 H locs hS h => ?_)
        refine lv_iconst (v := (1 : Int32)) hx hb dX1_rule_47 (by decide) ?_
        exact h_zretm Z hS dX1_rule_48 h
      · have h := if_t h c6
        refine lv_null hx hb dX1_rule_34 ?_
        refine lv_goto (tgt := 44) hx hb dX1_rule_35 (by decide) ?_
        refine h_putR (v := none) Z hS cls_2 hj5 (by decide) rfl rfl rfl rfl (fun t ht => by cases ht) fl_X1_272_2 dX1_rule_44 h (fun σ7 H locs hS h => ?_)
        refine lv_iconst (v := (1 : Int32)) hx hb dX1_rule_47 (by decide) ?_
        exact h_zretm Z hS dX1_rule_48 h
    · have h := if_f h c3
      refine lv_aload_n hx hb dX1_rule_13 rfl (lv_at hl 0 rfl) ?_
      refine lv_iload_n hx hb dX1_rule_14 rfl (lv_at hl 2 rfl) ?_
      refine h_ci hS h (fun z hz => h_rV (rest := []) Z hS hi0 rfl v_X1_269 (w_X1_isText hi0 hz) rfl rfl ⟨by decide, by decide⟩ rfl hl.1 rfl (Nat.le_of_ble_eq_true rfl) (Nat.zero_le _) (Nat.zero_le _) dX1_rule_15) (fun x11 H locs hS h => ?_)
      refine lv_if_ne (tgt := 23) hx hb dX1_rule_18 (by decide) (fun c12 => ?_) (fun c12 => ?_)
      · have h := if_f h c12
        refine lv_aload_n hx hb dX1_rule_23 rfl (lv_at hl 0 rfl) ?_
        refine h_getC (n := 3) (j := 3) (sh := (5, 8)) Z hS cls_0 hi0 (by decide) rfl rfl rfl fl_X1_24_0 dX1_rule_24 (fun hc13 => ?_)
        refine lv_iload_n hx hb dX1_rule_27 rfl (lv_at hl 1 rfl) ?_
        refine h_aldN (sh := (12, 0)) Z hS hc13 (by decide) (by decide) rfl dX1_rule_28 h (fun j14 hj14 h => ?_)
        refine lv_iload_n hx hb dX1_rule_29 rfl (lv_at hl 2 rfl) ?_
        refine lv_iconst (v := (-1 : Int32)) hx hb dX1_rule_30 (by decide) ?_
        refine lv_icmp_ne (tgt := 38) hx hb dX1_rule_31 (by decide) (fun c15 => ?_) (fun c15 => ?_)
        · have h := if_f h c15
          refine lv_aload_n hx hb dX1_rule_38 rfl (lv_at hl 0 rfl) ?_
          refine h_getC (n := 6) (j := 6) (sh := (7, 12)) Z hS cls_0 hi0 (by decide) rfl rfl rfl fl_X1_34_0 dX1_rule_39 (fun hc17 => ?_)
          refine lv_iload_n hx hb dX1_rule_42 rfl (lv_at hl 2 rfl) ?_
          refine h_aldN (sh := (23, 0)) Z hS hc17 (by decide) (by decide) rfl dX1_rule_43 h (fun j18 hj18 h => ?_)
          refine h_putR (v := (some j18)) Z hS cls_2 hj14 (by decide) rfl rfl rfl rfl (fun t ht => by cases ht; rw [hj18]; decide) fl_X1_272_2 dX1_rule_44 h (fun σ19 H locs hS h => ?_)
          refine lv_iconst (v := (1 : Int32)) hx hb dX1_rule_47 (by decide) ?_
          exact h_zretm Z hS dX1_rule_48 h
        · have h := if_t h c15
          refine lv_null hx hb dX1_rule_34 ?_
          refine lv_goto (tgt := 44) hx hb dX1_rule_35 (by decide) ?_
          refine h_putR (v := none) Z hS cls_2 hj14 (by decide) rfl rfl rfl rfl (fun t ht => by cases ht) fl_X1_272_2 dX1_rule_44 h (fun σ16 H locs hS h => ?_)
          refine lv_iconst (v := (1 : Int32)) hx hb dX1_rule_47 (by decide) ?_
          exact h_zretm Z hS dX1_rule_48 h
      · have h := if_t h c12
        refine lv_iconst (v := (0 : Int32)) hx hb dX1_rule_21 (by decide) ?_
        exact h_zretm Z hS dX1_rule_22 h
end
theorem dX1_stream_0 : decode cX1_stream 0 = .ok (.iload_n 1, 1) := by decide +kernel
theorem dX1_stream_1 : decode cX1_stream 1 = .ok (.i2l, 1) := by decide +kernel
theorem dX1_stream_2 : decode cX1_stream 2 = .ok (.lconst 1, 1) := by decide +kernel
theorem dX1_stream_3 : decode cX1_stream 3 = .ok (.ldc2_w 138, 3) := by decide +kernel
theorem dX1_stream_6 : decode cX1_stream 6 = .ok (.invokestatic 5, 3) := by decide +kernel
theorem dX1_stream_9 : decode cX1_stream 9 = .ok (.ifCond .ne 5, 3) := by decide +kernel
theorem dX1_stream_12 : decode cX1_stream 12 = .ok (.iconst 0, 1) := by decide +kernel
theorem dX1_stream_13 : decode cX1_stream 13 = .ok (.ireturn, 1) := by decide +kernel
theorem dX1_stream_14 : decode cX1_stream 14 = .ok (.aload_n 0, 1) := by decide +kernel
theorem dX1_stream_15 : decode cX1_stream 15 = .ok (.iload_n 1, 1) := by decide +kernel
theorem dX1_stream_16 : decode cX1_stream 16 = .ok (.putfield 294, 3) := by decide +kernel
theorem dX1_stream_19 : decode cX1_stream 19 = .ok (.iconst 1, 1) := by decide +kernel
theorem dX1_stream_20 : decode cX1_stream 20 = .ok (.ireturn, 1) := by decide +kernel
abbrev rm_X1_stream : Room := k2_rm 1 25
section
variable {p : Program} {l : Launch} {e : Env} {s : State} {m : MethodId} {args : Array Value} {below : List Frame} {meth : Method} {c : Code} {D : gD} {A : Nat → Prop} {ad : Nat → Nat} {S : Nat → Nat × Nat} {σ : Mem}
set_option maxRecDepth 100000 in
set_option maxHeartbeats 4000000 in
theorem w_X1_stream {a1 : Int32} (hi0 : S 0 = (10, 0)) {r : (Mem × Int32)} (h : f_X1_stream σ a1 = some r) : Met l yX1_stream (ws_ yX1_stream cX1_stream 2 (some .boolean)) rm_X1_stream (va_Pc [.ref (ad 0), .int a1] (PreG D (Ew D A) A ad S σ)) (QG D A ad S (some (.int r.2)) r.1) 0 0 A := by
  refine y_met (by decide) (Nat.le_of_ble_eq_true rfl) (fun p e s m below meth c ls Z hS hl => ?_)
  have hx := Z.1
  have hb := Z.2.1
  have hown := Z.2.2.2.2.2.1
  have hts := Z.2.2.2.2.2.2.1
  unfold f_X1_stream at h
  refine lv_iload_n hx hb dX1_stream_0 rfl (lv_at hl 1 rfl) ?_
  refine lv_i2l hx hb dX1_stream_1 rfl ?_
  refine lv_lconst (v := (1 : Int64)) hx hb dX1_stream_2 (by decide) ?_
  refine lv_ldc2 (v := (1000 : Int64)) hx hb hown (hts _ q358) dX1_stream_3 ?_
  refine h_ci hS h (fun z hz => h_rS (rest := []) Z hS v_X1_5 (w_X1_isIn hz) rfl rfl ⟨by decide, by decide⟩ rfl hl.1 rfl (Nat.le_of_ble_eq_true rfl) (Nat.zero_le _) (Nat.zero_le _) dX1_stream_6) (fun x1 H locs hS h => ?_)
  refine lv_if_ne (tgt := 14) hx hb dX1_stream_9 (by decide) (fun c2 => ?_) (fun c2 => ?_)
  · have h := if_f h c2
    refine lv_aload_n hx hb dX1_stream_14 rfl (lv_at hl 0 rfl) ?_
    refine lv_iload_n hx hb dX1_stream_15 rfl (lv_at hl 1 rfl) ?_
    refine h_putI Z hS cls_0 hi0 (by decide) rfl rfl rfl fl_X1_294_0 dX1_stream_16 h (fun σ3 H locs hS h => ?_)
    refine lv_iconst (v := (1 : Int32)) hx hb dX1_stream_19 (by decide) ?_
    exact h_zretm Z hS dX1_stream_20 h
  · have h := if_t h c2
    refine lv_iconst (v := (0 : Int32)) hx hb dX1_stream_12 (by decide) ?_
    exact h_zretm Z hS dX1_stream_13 h
end
theorem dX1_come_0 : decode cX1_come 0 = .ok (.iload_n 1, 1) := by decide +kernel
theorem dX1_come_1 : decode cX1_come 1 = .ok (.invokestatic 132, 3) := by decide +kernel
theorem dX1_come_4 : decode cX1_come 4 = .ok (.ifCond .eq 15, 3) := by decide +kernel
theorem dX1_come_7 : decode cX1_come 7 = .ok (.iload_n 2, 1) := by decide +kernel
theorem dX1_come_8 : decode cX1_come 8 = .ok (.i2l, 1) := by decide +kernel
theorem dX1_come_9 : decode cX1_come 9 = .ok (.lconst 0, 1) := by decide +kernel
theorem dX1_come_10 : decode cX1_come 10 = .ok (.ldc2_w 297, 3) := by decide +kernel
theorem dX1_come_13 : decode cX1_come 13 = .ok (.invokestatic 5, 3) := by decide +kernel
theorem dX1_come_16 : decode cX1_come 16 = .ok (.ifCond .ne 5, 3) := by decide +kernel
theorem dX1_come_19 : decode cX1_come 19 = .ok (.iconst 0, 1) := by decide +kernel
theorem dX1_come_20 : decode cX1_come 20 = .ok (.ireturn, 1) := by decide +kernel
theorem dX1_come_21 : decode cX1_come 21 = .ok (.aload_n 0, 1) := by decide +kernel
theorem dX1_come_22 : decode cX1_come 22 = .ok (.getfield 42, 3) := by decide +kernel
theorem dX1_come_25 : decode cX1_come 25 = .ok (.iload_n 1, 1) := by decide +kernel
theorem dX1_come_26 : decode cX1_come 26 = .ok (.iload_n 2, 1) := by decide +kernel
theorem dX1_come_27 : decode cX1_come 27 = .ok (.iastore, 1) := by decide +kernel
theorem dX1_come_28 : decode cX1_come 28 = .ok (.iconst 1, 1) := by decide +kernel
theorem dX1_come_29 : decode cX1_come 29 = .ok (.ireturn, 1) := by decide +kernel
abbrev rm_X1_come : Room := k2_rm 2 45
section
variable {p : Program} {l : Launch} {e : Env} {s : State} {m : MethodId} {args : Array Value} {below : List Frame} {meth : Method} {c : Code} {D : gD} {A : Nat → Prop} {ad : Nat → Nat} {S : Nat → Nat × Nat} {σ : Mem}
set_option maxRecDepth 100000 in
set_option maxHeartbeats 4000000 in
theorem w_X1_come {a1 : Int32} {a2 : Int32} (hi0 : S 0 = (10, 0)) {r : (Mem × Int32)} (h : f_X1_come σ a1 a2 = some r) : Met l yX1_come (ws_ yX1_come cX1_come 3 (some .boolean)) rm_X1_come (va_Pc [.ref (ad 0), .int a1, .int a2] (PreG D (Ew D A) A ad S σ)) (QG D A ad S (some (.int r.2)) r.1) 0 0 A := by
  refine y_met (by decide) (Nat.le_of_ble_eq_true rfl) (fun p e s m below meth c ls Z hS hl => ?_)
  have hx := Z.1
  have hb := Z.2.1
  have hown := Z.2.2.2.2.2.1
  have hts := Z.2.2.2.2.2.2.1
  unfold f_X1_come at h
  refine lv_iload_n hx hb dX1_come_0 rfl (lv_at hl 1 rfl) ?_
  refine h_ci hS h (fun z hz => h_rS (rest := []) Z hS v_X1_132 (w_X1_isSize hz) rfl rfl ⟨by decide, by decide⟩ rfl hl.1 rfl (Nat.le_of_ble_eq_true rfl) (Nat.zero_le _) (Nat.zero_le _) dX1_come_1) (fun x1 H locs hS h => ?_)
  refine lv_if_eq (tgt := 19) hx hb dX1_come_4 (by decide) (fun c2 => ?_) (fun c2 => ?_)
  · have h := if_t h c2
    refine lv_iconst (v := (0 : Int32)) hx hb dX1_come_19 (by decide) ?_
    exact h_zretm Z hS dX1_come_20 h
  · have h := if_f h c2
    refine lv_iload_n hx hb dX1_come_7 rfl (lv_at hl 2 rfl) ?_
    refine lv_i2l hx hb dX1_come_8 rfl ?_
    refine lv_lconst (v := (0 : Int64)) hx hb dX1_come_9 (by decide) ?_
    refine lv_ldc2 (v := (9999 : Int64)) hx hb hown (hts _ q889) dX1_come_10 ?_
    refine h_ci hS h (fun z hz => h_rS (rest := []) Z hS v_X1_5 (w_X1_isIn hz) rfl rfl ⟨by decide, by decide⟩ rfl hl.1 rfl (Nat.le_of_ble_eq_true rfl) (Nat.zero_le _) (Nat.zero_le _) dX1_come_13) (fun x3 H locs hS h => ?_)
    refine lv_if_ne (tgt := 21) hx hb dX1_come_16 (by decide) (fun c4 => ?_) (fun c4 => ?_)
    · have h := if_f h c4
      refine lv_aload_n hx hb dX1_come_21 rfl (lv_at hl 0 rfl) ?_
      refine h_getC (n := 10) (j := 10) (sh := (1, 8)) Z hS cls_0 hi0 (by decide) rfl rfl rfl fl_X1_42_0 dX1_come_22 (fun hc5 => ?_)
      refine lv_iload_n hx hb dX1_come_25 rfl (lv_at hl 1 rfl) ?_
      refine lv_iload_n hx hb dX1_come_26 rfl (lv_at hl 2 rfl) ?_
      refine h_iast Z hS hc5 dX1_come_27 h (fun σ6 H locs hS h => ?_)
      refine lv_iconst (v := (1 : Int32)) hx hb dX1_come_28 (by decide) ?_
      exact h_zretm Z hS dX1_come_29 h
    · have h := if_t h c4
      refine lv_iconst (v := (0 : Int32)) hx hb dX1_come_19 (by decide) ?_
      exact h_zretm Z hS dX1_come_20 h
end
theorem dX1_let_0 : decode cX1_let 0 = .ok (.aload_n 0, 1) := by decide +kernel
theorem dX1_let_1 : decode cX1_let 1 = .ok (.getfield 38, 3) := by decide +kernel
theorem dX1_let_4 : decode cX1_let 4 = .ok (.iconst 0, 1) := by decide +kernel
theorem dX1_let_5 : decode cX1_let 5 = .ok (.iload_n 1, 1) := by decide +kernel
theorem dX1_let_6 : decode cX1_let 6 = .ok (.iastore, 1) := by decide +kernel
theorem dX1_let_7 : decode cX1_let 7 = .ok (.aload_n 0, 1) := by decide +kernel
theorem dX1_let_8 : decode cX1_let 8 = .ok (.getfield 38, 3) := by decide +kernel
theorem dX1_let_11 : decode cX1_let 11 = .ok (.iconst 1, 1) := by decide +kernel
theorem dX1_let_12 : decode cX1_let 12 = .ok (.iload_n 2, 1) := by decide +kernel
theorem dX1_let_13 : decode cX1_let 13 = .ok (.iastore, 1) := by decide +kernel
theorem dX1_let_14 : decode cX1_let 14 = .ok (.aload_n 0, 1) := by decide +kernel
theorem dX1_let_15 : decode cX1_let 15 = .ok (.getfield 38, 3) := by decide +kernel
theorem dX1_let_18 : decode cX1_let 18 = .ok (.iconst 2, 1) := by decide +kernel
theorem dX1_let_19 : decode cX1_let 19 = .ok (.iload_n 3, 1) := by decide +kernel
theorem dX1_let_20 : decode cX1_let 20 = .ok (.iastore, 1) := by decide +kernel
theorem dX1_let_21 : decode cX1_let 21 = .ok (.aload_n 0, 1) := by decide +kernel
theorem dX1_let_22 : decode cX1_let 22 = .ok (.getfield 38, 3) := by decide +kernel
theorem dX1_let_25 : decode cX1_let 25 = .ok (.iconst 3, 1) := by decide +kernel
theorem dX1_let_26 : decode cX1_let 26 = .ok (.iload 4, 2) := by decide +kernel
theorem dX1_let_28 : decode cX1_let 28 = .ok (.iastore, 1) := by decide +kernel
theorem dX1_let_29 : decode cX1_let 29 = .ok (.aload_n 0, 1) := by decide +kernel
theorem dX1_let_30 : decode cX1_let 30 = .ok (.getfield 38, 3) := by decide +kernel
theorem dX1_let_33 : decode cX1_let 33 = .ok (.iconst 4, 1) := by decide +kernel
theorem dX1_let_34 : decode cX1_let 34 = .ok (.iload 5, 2) := by decide +kernel
theorem dX1_let_36 : decode cX1_let 36 = .ok (.iastore, 1) := by decide +kernel
theorem dX1_let_37 : decode cX1_let 37 = .ok (.aload_n 0, 1) := by decide +kernel
theorem dX1_let_38 : decode cX1_let 38 = .ok (.getfield 38, 3) := by decide +kernel
theorem dX1_let_41 : decode cX1_let 41 = .ok (.iconst 5, 1) := by decide +kernel
theorem dX1_let_42 : decode cX1_let 42 = .ok (.iload 6, 2) := by decide +kernel
theorem dX1_let_44 : decode cX1_let 44 = .ok (.iastore, 1) := by decide +kernel
theorem dX1_let_45 : decode cX1_let 45 = .ok (.return_, 1) := by decide +kernel
abbrev rm_X1_let : Room := k2_rm 0 0
section
variable {p : Program} {l : Launch} {e : Env} {s : State} {m : MethodId} {args : Array Value} {below : List Frame} {meth : Method} {c : Code} {D : gD} {A : Nat → Prop} {ad : Nat → Nat} {S : Nat → Nat × Nat} {σ : Mem}
set_option maxRecDepth 100000 in
set_option maxHeartbeats 4000000 in
theorem w_X1_let {a1 : Int32} {a2 : Int32} {a3 : Int32} {a4 : Int32} {a5 : Int32} {a6 : Int32} (hi0 : S 0 = (10, 0)) {r : Mem} (h : f_X1_let σ a1 a2 a3 a4 a5 a6 = some r) : Met l yX1_let (ws_ yX1_let cX1_let 7 none) rm_X1_let (va_Pc [.ref (ad 0), .int a1, .int a2, .int a3, .int a4, .int a5, .int a6] (PreG D (Ew D A) A ad S σ)) (QG D A ad S none r) 0 0 A := by
  refine y_met (by decide) (Nat.le_of_ble_eq_true rfl) (fun p e s m below meth c ls Z hS hl => ?_)
  have hx := Z.1
  have hb := Z.2.1
  have hown := Z.2.2.2.2.2.1
  have hts := Z.2.2.2.2.2.2.1
  unfold f_X1_let at h
  refine lv_aload_n hx hb dX1_let_0 rfl (lv_at hl 0 rfl) ?_
  refine h_getC (n := 7) (j := 7) (sh := (1, 6)) Z hS cls_0 hi0 (by decide) rfl rfl rfl fl_X1_38_0 dX1_let_1 (fun hc1 => ?_)
  refine lv_iconst (v := (0 : Int32)) hx hb dX1_let_4 (by decide) ?_
  refine lv_iload_n hx hb dX1_let_5 rfl (lv_at hl 1 rfl) ?_
  refine h_iast Z hS hc1 dX1_let_6 h (fun σ2 H locs hS h => ?_)
  refine lv_aload_n hx hb dX1_let_7 rfl (lv_at hl 0 rfl) ?_
  refine h_getC (n := 7) (j := 7) (sh := (1, 6)) Z hS cls_0 hi0 (by decide) rfl rfl rfl fl_X1_38_0 dX1_let_8 (fun hc3 => ?_)
  refine lv_iconst (v := (1 : Int32)) hx hb dX1_let_11 (by decide) ?_
  refine lv_iload_n hx hb dX1_let_12 rfl (lv_at hl 2 rfl) ?_
  refine h_iast Z hS hc3 dX1_let_13 h (fun σ4 H locs hS h => ?_)
  refine lv_aload_n hx hb dX1_let_14 rfl (lv_at hl 0 rfl) ?_
  refine h_getC (n := 7) (j := 7) (sh := (1, 6)) Z hS cls_0 hi0 (by decide) rfl rfl rfl fl_X1_38_0 dX1_let_15 (fun hc5 => ?_)
  refine lv_iconst (v := (2 : Int32)) hx hb dX1_let_18 (by decide) ?_
  refine lv_iload_n hx hb dX1_let_19 rfl (lv_at hl 3 rfl) ?_
  refine h_iast Z hS hc5 dX1_let_20 h (fun σ6 H locs hS h => ?_)
  refine lv_aload_n hx hb dX1_let_21 rfl (lv_at hl 0 rfl) ?_
  refine h_getC (n := 7) (j := 7) (sh := (1, 6)) Z hS cls_0 hi0 (by decide) rfl rfl rfl fl_X1_38_0 dX1_let_22 (fun hc7 => ?_)
  refine lv_iconst (v := (3 : Int32)) hx hb dX1_let_25 (by decide) ?_
  refine lv_iload hx hb dX1_let_26 (lv_at hl 4 rfl) ?_
  refine h_iast Z hS hc7 dX1_let_28 h (fun σ8 H locs hS h => ?_)
  refine lv_aload_n hx hb dX1_let_29 rfl (lv_at hl 0 rfl) ?_
  refine h_getC (n := 7) (j := 7) (sh := (1, 6)) Z hS cls_0 hi0 (by decide) rfl rfl rfl fl_X1_38_0 dX1_let_30 (fun hc9 => ?_)
  refine lv_iconst (v := (4 : Int32)) hx hb dX1_let_33 (by decide) ?_
  refine lv_iload hx hb dX1_let_34 (lv_at hl 5 rfl) ?_
  refine h_iast Z hS hc9 dX1_let_36 h (fun σ10 H locs hS h => ?_)
  refine lv_aload_n hx hb dX1_let_37 rfl (lv_at hl 0 rfl) ?_
  refine h_getC (n := 7) (j := 7) (sh := (1, 6)) Z hS cls_0 hi0 (by decide) rfl rfl rfl fl_X1_38_0 dX1_let_38 (fun hc11 => ?_)
  refine lv_iconst (v := (5 : Int32)) hx hb dX1_let_41 (by decide) ?_
  refine lv_iload hx hb dX1_let_42 (lv_at hl 6 rfl) ?_
  refine h_iast Z hS hc11 dX1_let_44 h (fun σ12 H locs hS h => ?_)
  exact h_vret Z hS dX1_let_45 h
end
theorem dX1_bound_0 : decode cX1_bound 0 = .ok (.ldc2_w 229, 3) := by decide +kernel
theorem dX1_bound_3 : decode cX1_bound 3 = .ok (.ldc2_w 231, 3) := by decide +kernel
theorem dX1_bound_6 : decode cX1_bound 6 = .ok (.lload_n 0, 1) := by decide +kernel
theorem dX1_bound_7 : decode cX1_bound 7 = .ok (.invokestatic 233, 3) := by decide +kernel
theorem dX1_bound_10 : decode cX1_bound 10 = .ok (.invokestatic 239, 3) := by decide +kernel
theorem dX1_bound_13 : decode cX1_bound 13 = .ok (.l2i, 1) := by decide +kernel
theorem dX1_bound_14 : decode cX1_bound 14 = .ok (.ireturn, 1) := by decide +kernel
abbrev rm_X1_bound : Room := k2_rm 1 17
section
variable {p : Program} {l : Launch} {e : Env} {s : State} {m : MethodId} {args : Array Value} {below : List Frame} {meth : Method} {c : Code} {D : gD} {A : Nat → Prop} {ad : Nat → Nat} {S : Nat → Nat × Nat} {σ : Mem}
set_option maxRecDepth 100000 in
set_option maxHeartbeats 4000000 in
theorem w_X1_bound {a1 : Int64} {r : Int32} (h : f_X1_bound σ a1 = some r) : Met l yX1_bound (ws_ yX1_bound cX1_bound 2 (some .int)) rm_X1_bound (va_Pc [.long a1] (PreG D (Ew D A) A ad S σ)) (QG D A ad S (some (.int r)) σ) 0 0 A := by
  refine y_met (by decide) (Nat.le_of_ble_eq_true rfl) (fun p e s m below meth c ls Z hS hl => ?_)
  have hx := Z.1
  have hb := Z.2.1
  have hown := Z.2.2.2.2.2.1
  have hts := Z.2.2.2.2.2.2.1
  unfold f_X1_bound at h
  refine lv_ldc2 (v := (-1000000 : Int64)) hx hb hown (hts _ q942) dX1_bound_0 ?_
  refine lv_ldc2 (v := (1000000 : Int64)) hx hb hown (hts _ q943) dX1_bound_3 ?_
  refine lv_lload_n hx hb dX1_bound_6 rfl (lv_at hl 0 rfl) ?_
  refine y_lmin hx hb (hl.1 ▸ Z.2.2.2.2.1) Z.2.2.2.2.2 q944 (by decide) (Nat.le_of_ble_eq_true rfl) (Nat.zero_le _) (Nat.zero_le _) dX1_bound_7 ?_
  refine y_lmax hx hb (hl.1 ▸ Z.2.2.2.2.1) Z.2.2.2.2.2 q947 (by decide) (Nat.le_of_ble_eq_true rfl) (Nat.zero_le _) (Nat.zero_le _) dX1_bound_10 ?_
  refine lv_l2i hx hb dX1_bound_13 rfl ?_
  exact h_iret Z hS dX1_bound_14 h
end
theorem dX16_with_0 : decode cX16_with 0 = .ok (.aload_n 0, 1) := by decide +kernel
theorem dX16_with_1 : decode cX16_with 1 = .ok (.getfield 7, 3) := by decide +kernel
theorem dX16_with_4 : decode cX16_with 4 = .ok (.bipush 43, 2) := by decide +kernel
theorem dX16_with_6 : decode cX16_with 6 = .ok (.if_icmp .ne 9, 3) := by decide +kernel
theorem dX16_with_9 : decode cX16_with 9 = .ok (.lload_n 1, 1) := by decide +kernel
theorem dX16_with_10 : decode cX16_with 10 = .ok (.lload_n 3, 1) := by decide +kernel
theorem dX16_with_11 : decode cX16_with 11 = .ok (.ladd, 1) := by decide +kernel
theorem dX16_with_12 : decode cX16_with 12 = .ok (.goto 46, 3) := by decide +kernel
theorem dX16_with_15 : decode cX16_with 15 = .ok (.aload_n 0, 1) := by decide +kernel
theorem dX16_with_16 : decode cX16_with 16 = .ok (.getfield 7, 3) := by decide +kernel
theorem dX16_with_19 : decode cX16_with 19 = .ok (.bipush 45, 2) := by decide +kernel
theorem dX16_with_21 : decode cX16_with 21 = .ok (.if_icmp .ne 9, 3) := by decide +kernel
theorem dX16_with_24 : decode cX16_with 24 = .ok (.lload_n 1, 1) := by decide +kernel
theorem dX16_with_25 : decode cX16_with 25 = .ok (.lload_n 3, 1) := by decide +kernel
theorem dX16_with_26 : decode cX16_with 26 = .ok (.lsub, 1) := by decide +kernel
theorem dX16_with_27 : decode cX16_with 27 = .ok (.goto 31, 3) := by decide +kernel
theorem dX16_with_30 : decode cX16_with 30 = .ok (.aload_n 0, 1) := by decide +kernel
theorem dX16_with_31 : decode cX16_with 31 = .ok (.getfield 7, 3) := by decide +kernel
theorem dX16_with_34 : decode cX16_with 34 = .ok (.bipush 42, 2) := by decide +kernel
theorem dX16_with_36 : decode cX16_with 36 = .ok (.if_icmp .ne 9, 3) := by decide +kernel
theorem dX16_with_39 : decode cX16_with 39 = .ok (.lload_n 1, 1) := by decide +kernel
theorem dX16_with_40 : decode cX16_with 40 = .ok (.lload_n 3, 1) := by decide +kernel
theorem dX16_with_41 : decode cX16_with 41 = .ok (.lmul, 1) := by decide +kernel
theorem dX16_with_42 : decode cX16_with 42 = .ok (.goto 16, 3) := by decide +kernel
theorem dX16_with_45 : decode cX16_with 45 = .ok (.lload_n 3, 1) := by decide +kernel
theorem dX16_with_46 : decode cX16_with 46 = .ok (.lconst 0, 1) := by decide +kernel
theorem dX16_with_47 : decode cX16_with 47 = .ok (.lcmp, 1) := by decide +kernel
theorem dX16_with_48 : decode cX16_with 48 = .ok (.ifCond .ne 7, 3) := by decide +kernel
theorem dX16_with_51 : decode cX16_with 51 = .ok (.lconst 0, 1) := by decide +kernel
theorem dX16_with_52 : decode cX16_with 52 = .ok (.goto 6, 3) := by decide +kernel
theorem dX16_with_55 : decode cX16_with 55 = .ok (.lload_n 1, 1) := by decide +kernel
theorem dX16_with_56 : decode cX16_with 56 = .ok (.lload_n 3, 1) := by decide +kernel
theorem dX16_with_57 : decode cX16_with 57 = .ok (.ldiv, 1) := by decide +kernel
theorem dX16_with_58 : decode cX16_with 58 = .ok (.invokestatic 17, 3) := by decide +kernel
theorem dX16_with_61 : decode cX16_with 61 = .ok (.ireturn, 1) := by decide +kernel
abbrev rm_X16_with : Room := k2_rm 2 38
section
variable {p : Program} {l : Launch} {e : Env} {s : State} {m : MethodId} {args : Array Value} {below : List Frame} {meth : Method} {c : Code} {D : gD} {A : Nat → Prop} {ad : Nat → Nat} {S : Nat → Nat × Nat} {σ : Mem}
set_option maxRecDepth 100000 in
set_option maxHeartbeats 4000000 in
theorem w_X16_with {i0 : Nat} {a1 : Int64} {a2 : Int64} (hi0 : S i0 = (21, 0)) {r : Int32} (h : f_X16_with σ i0 a1 a2 = some r) : Met l yX16_with (ws_ yX16_with cX16_with 5 (some .int)) rm_X16_with (va_Pc [.ref (ad i0), .long a1, .long a2] (PreG D (Ew D A) A ad S σ)) (QG D A ad S (some (.int r)) σ) 0 0 A := by
  refine y_met (by decide) (Nat.le_of_ble_eq_true rfl) (fun p e s m below meth c ls Z hS hl => ?_)
  have hx := Z.1
  have hb := Z.2.1
  have hown := Z.2.2.2.2.2.1
  have hts := Z.2.2.2.2.2.2.1
  unfold f_X16_with at h
  refine lv_aload_n hx hb dX16_with_0 rfl (lv_at hl 0 rfl) ?_
  refine h_getI Z hS cls_11 hi0 (by decide) rfl fl_X16_7_11 dX16_with_1 h (fun x1 h => ?_)
  refine lv_bipush (v := (43 : Int32)) hx hb dX16_with_4 (by decide) ?_
  refine lv_icmp_ne (tgt := 15) hx hb dX16_with_6 (by decide) (fun c2 => ?_) (fun c2 => ?_)
  · have h := if_f h c2
    refine lv_aload_n hx hb dX16_with_15 rfl (lv_at hl 0 rfl) ?_
    refine h_getI Z hS cls_11 hi0 (by decide) rfl fl_X16_7_11 dX16_with_16 h (fun x4 h => ?_)
    refine lv_bipush (v := (45 : Int32)) hx hb dX16_with_19 (by decide) ?_
    refine lv_icmp_ne (tgt := 30) hx hb dX16_with_21 (by decide) (fun c5 => ?_) (fun c5 => ?_)
    · have h := if_f h c5
      refine lv_aload_n hx hb dX16_with_30 rfl (lv_at hl 0 rfl) ?_
      refine h_getI Z hS cls_11 hi0 (by decide) rfl fl_X16_7_11 dX16_with_31 h (fun x7 h => ?_)
      refine lv_bipush (v := (42 : Int32)) hx hb dX16_with_34 (by decide) ?_
      refine lv_icmp_ne (tgt := 45) hx hb dX16_with_36 (by decide) (fun c8 => ?_) (fun c8 => ?_)
      · have h := if_f h c8
        refine lv_lload_n hx hb dX16_with_45 rfl (lv_at hl 2 rfl) ?_
        refine lv_lconst (v := (0 : Int64)) hx hb dX16_with_46 (by decide) ?_
        refine y_lcmp_ne (tgt := 55) hx hb dX16_with_47 dX16_with_48 (by decide) (fun c10 => ?_) (fun c10 => ?_)
        · have h := if_f h c10
          refine lv_lload_n hx hb dX16_with_55 rfl (lv_at hl 1 rfl) ?_
          refine lv_lload_n hx hb dX16_with_56 rfl (lv_at hl 2 rfl) ?_
          refine h_ldiv Z dX16_with_57 h (fun h => ?_)
          refine h_ci hS h (fun z hz => h_rN (rest := []) Z hS vn_X16_17 (w_X1_bound hz) rfl rfl ⟨by decide, by decide⟩ rfl hl.1 rfl (Nat.le_of_ble_eq_true rfl) (Nat.zero_le _) (Nat.zero_le _) dX16_with_58) (fun x12 H locs hS h => ?_)
          exact h_iret Z hS dX16_with_61 h
        · have h := if_t h c10
          refine lv_lconst (v := (0 : Int64)) hx hb dX16_with_51 (by decide) ?_
          refine lv_goto (tgt := 58) hx hb dX16_with_52 (by decide) ?_
          refine h_ci hS h (fun z hz => h_rN (rest := []) Z hS vn_X16_17 (w_X1_bound hz) rfl rfl ⟨by decide, by decide⟩ rfl hl.1 rfl (Nat.le_of_ble_eq_true rfl) (Nat.zero_le _) (Nat.zero_le _) dX16_with_58) (fun x11 H locs hS h => ?_)
          exact h_iret Z hS dX16_with_61 h
      · have h := if_t h c8
        refine lv_lload_n hx hb dX16_with_39 rfl (lv_at hl 1 rfl) ?_
        refine lv_lload_n hx hb dX16_with_40 rfl (lv_at hl 2 rfl) ?_
        refine lv_lmul hx hb dX16_with_41 ?_
        refine lv_goto (tgt := 58) hx hb dX16_with_42 (by decide) ?_
        refine h_ci hS h (fun z hz => h_rN (rest := []) Z hS vn_X16_17 (w_X1_bound hz) rfl rfl ⟨by decide, by decide⟩ rfl hl.1 rfl (Nat.le_of_ble_eq_true rfl) (Nat.zero_le _) (Nat.zero_le _) dX16_with_58) (fun x9 H locs hS h => ?_)
        exact h_iret Z hS dX16_with_61 h
    · have h := if_t h c5
      refine lv_lload_n hx hb dX16_with_24 rfl (lv_at hl 1 rfl) ?_
      refine lv_lload_n hx hb dX16_with_25 rfl (lv_at hl 2 rfl) ?_
      refine lv_lsub hx hb dX16_with_26 ?_
      refine lv_goto (tgt := 58) hx hb dX16_with_27 (by decide) ?_
      refine h_ci hS h (fun z hz => h_rN (rest := []) Z hS vn_X16_17 (w_X1_bound hz) rfl rfl ⟨by decide, by decide⟩ rfl hl.1 rfl (Nat.le_of_ble_eq_true rfl) (Nat.zero_le _) (Nat.zero_le _) dX16_with_58) (fun x6 H locs hS h => ?_)
      exact h_iret Z hS dX16_with_61 h
  · have h := if_t h c2
    refine lv_lload_n hx hb dX16_with_9 rfl (lv_at hl 1 rfl) ?_
    refine lv_lload_n hx hb dX16_with_10 rfl (lv_at hl 2 rfl) ?_
    refine lv_ladd hx hb dX16_with_11 ?_
    refine lv_goto (tgt := 58) hx hb dX16_with_12 (by decide) ?_
    refine h_ci hS h (fun z hz => h_rN (rest := []) Z hS vn_X16_17 (w_X1_bound hz) rfl rfl ⟨by decide, by decide⟩ rfl hl.1 rfl (Nat.le_of_ble_eq_true rfl) (Nat.zero_le _) (Nat.zero_le _) dX16_with_58) (fun x3 H locs hS h => ?_)
    exact h_iret Z hS dX16_with_61 h
end
theorem dX13_of_0 : decode cX13_of 0 = .ok (.aload_n 0, 1) := by decide +kernel
theorem dX13_of_1 : decode cX13_of 1 = .ok (.getfield 7, 3) := by decide +kernel
theorem dX13_of_4 : decode cX13_of 4 = .ok (.aload_n 1, 1) := by decide +kernel
theorem dX13_of_5 : decode cX13_of 5 = .ok (.invokevirtual 28, 3) := by decide +kernel
theorem dX13_of_8 : decode cX13_of 8 = .ok (.istore_n 2, 1) := by decide +kernel
theorem dX13_of_9 : decode cX13_of 9 = .ok (.aload_n 0, 1) := by decide +kernel
theorem dX13_of_10 : decode cX13_of 10 = .ok (.getfield 18, 3) := by decide +kernel
theorem dX13_of_13 : decode cX13_of 13 = .ok (.astore_n 3, 1) := by decide +kernel
theorem dX13_of_14 : decode cX13_of 14 = .ok (.aload_n 3, 1) := by decide +kernel
theorem dX13_of_15 : decode cX13_of 15 = .ok (.ifnull 27, 3) := by decide +kernel
theorem dX13_of_18 : decode cX13_of 18 = .ok (.aload_n 3, 1) := by decide +kernel
theorem dX13_of_19 : decode cX13_of 19 = .ok (.iload_n 2, 1) := by decide +kernel
theorem dX13_of_20 : decode cX13_of 20 = .ok (.i2l, 1) := by decide +kernel
theorem dX13_of_21 : decode cX13_of 21 = .ok (.aload_n 3, 1) := by decide +kernel
theorem dX13_of_22 : decode cX13_of 22 = .ok (.getfield 32, 3) := by decide +kernel
theorem dX13_of_25 : decode cX13_of 25 = .ok (.aload_n 1, 1) := by decide +kernel
theorem dX13_of_26 : decode cX13_of 26 = .ok (.invokevirtual 28, 3) := by decide +kernel
theorem dX13_of_29 : decode cX13_of 29 = .ok (.i2l, 1) := by decide +kernel
theorem dX13_of_30 : decode cX13_of 30 = .ok (.invokevirtual 35, 3) := by decide +kernel
theorem dX13_of_33 : decode cX13_of 33 = .ok (.istore_n 2, 1) := by decide +kernel
theorem dX13_of_34 : decode cX13_of 34 = .ok (.aload_n 3, 1) := by decide +kernel
theorem dX13_of_35 : decode cX13_of 35 = .ok (.getfield 25, 3) := by decide +kernel
theorem dX13_of_38 : decode cX13_of 38 = .ok (.astore_n 3, 1) := by decide +kernel
theorem dX13_of_39 : decode cX13_of 39 = .ok (.goto (-25), 3) := by decide +kernel
theorem dX13_of_42 : decode cX13_of 42 = .ok (.iload_n 2, 1) := by decide +kernel
theorem dX13_of_43 : decode cX13_of 43 = .ok (.ireturn, 1) := by decide +kernel
abbrev rm_X13_of_b (qf ql : Nat) : Room := k2_rm (qf + 3) (ql + 62)
section
variable {p : Program} {l : Launch} {e : Env} {s : State} {m : MethodId} {args : Array Value} {below : List Frame} {meth : Method} {c : Code} {D : gD} {A : Nat → Prop} {ad : Nat → Nat} {S : Nat → Nat × Nat} {σ : Mem}
set_option maxRecDepth 100000 in
set_option maxHeartbeats 4000000 in
theorem w_X13_of_b_L14 {rec : Mem → Nat → Nat → Option Int32} {qf ql : Nat} (hrec : SumC l D A ad S rec qf ql) (Z : Cz D (Ew D A) A cX13_of 4 (some .int) RX13 p s m args meth c) {u1 : Nat} (hu1 : S u1 = (1, 6)) {r : Int32} {k42 : Int32 → Option Int32}
    (hk42 : ∀ (w2 : Int32) (H : Heap) (locs : List Loc) (ls : Array Slot), St D A ad S σ s.heap H locs → lv_has ls 4 [(2, .int w2)] → k42 w2 = some r → W p l e (rm_X13_of_b qf ql) s m args below meth c H locs 0 0 (MQ below (QG D A ad S (some (.int r)) σ) args s 0 0 A) (F0 m 42 ls [])) :
    ∀ (n : Nat) (v2 : Int32) (v3 : Option Nat) (hv3 : ∀ t, v3 = some t → S t ∈ [(21, 0)]) (H : Heap) (locs : List Loc) (ls : Array Slot), St D A ad S σ s.heap H locs → lv_has ls 4 [(1, .ref (ad u1)), (2, .int v2), (3, va_rf (v3.map ad))] → f_X13_of_b_L14 rec k42 σ u1 n v2 v3 = some r → W p l e (rm_X13_of_b qf ql) s m args below meth c H locs 0 0 (MQ below (QG D A ad S (some (.int r)) σ) args s 0 0 A) (F0 m 14 ls []) := by
  have hx := Z.1
  have hb := Z.2.1
  have hown := Z.2.2.2.2.2.1
  have hts := Z.2.2.2.2.2.2.1
  intro n
  induction n with
  | zero => intro v2 v3 hv3 H locs ls hS hl h; cases h
  | succ n ih =>
    intro v2 v3 hv3 H locs ls hS hl h
    unfold f_X13_of_b_L14 at h
    refine h_aldq_n (o := v3) Z dX13_of_14 rfl (lv_at hl 2 rfl) ?_
    refine h_ifnull (o := v3) (tgt := 42) Z dX13_of_15 (by decide) (fun ev3 => ?_) (fun j4 ev3 => ?_)
    · subst ev3
      have hl : lv_has ls 4 [(1, .ref (ad u1)), (2, .int v2), (3, .null)] := hl
      exact hk42 _ _ _ _ hS (lv_sub hl [1] rfl) h
    · subst ev3
      have hj4 := hv3 j4 rfl
      replace hj4 : S j4 = (21, 0) := List.mem_singleton.mp hj4
      have hl : lv_has ls 4 [(1, .ref (ad u1)), (2, .int v2), (3, .ref (ad j4))] := hl
      refine lv_aload_n hx hb dX13_of_18 rfl (lv_at hl 2 rfl) ?_
      refine lv_iload_n hx hb dX13_of_19 rfl (lv_at hl 1 rfl) ?_
      refine lv_i2l hx hb dX13_of_20 rfl ?_
      refine lv_aload_n hx hb dX13_of_21 rfl (lv_at hl 2 rfl) ?_
      refine h_getM Z hS cls_11 hj4 (by decide) rfl fl_X13_32_11 dX13_of_22 h (fun j5 hj5 h => ?_)
      refine lv_aload_n hx hb dX13_of_25 rfl (lv_at hl 0 rfl) ?_
      refine h_cSum (rest := [.long (v2).toInt64, .ref (ad j4)]) Z hS hj5 hu1 ve_X13_28 hrec ⟨by show qf + 0 + 1 ≤ qf + 3; omega, by show 8 + (4 + 11) + (ql + 0) ≤ ql + 62; omega⟩ hl.1 (Nat.le_of_ble_eq_true rfl) (Nat.zero_le _) (Nat.zero_le _) dX13_of_26 h (fun x6 H locs hS h => ?_)
      refine lv_i2l hx hb dX13_of_29 rfl ?_
      refine h_ci hS h (fun z hz => h_rV (rest := []) Z hS hj4 rfl v_X13_35 (w_X16_with hj4 hz) rfl rfl ⟨by show 2 + 1 ≤ qf + 3; omega, by show 8 + (5 + 11) + (38) ≤ ql + 62; omega⟩ rfl hl.1 rfl (Nat.le_of_ble_eq_true rfl) (Nat.zero_le _) (Nat.zero_le _) dX13_of_30) (fun x7 H locs hS h => ?_)
      refine lv_istore_n (lv' := [(2, .int x7), (1, .ref (ad u1)), (3, .ref (ad j4))]) hx hb dX13_of_33 rfl hl (by decide) rfl (fun ls hl => ?_)
      refine lv_aload_n hx hb dX13_of_34 rfl (lv_at hl 2 rfl) ?_
      refine h_getQ Z hS cls_11 hj4 (by decide) rfl fl_X13_25_11 dX13_of_35 h (fun o8 ho8 h => ?_)
      refine h_astq_n (o := o8) (lv' := [(3, va_rf (o8.map ad)), (2, .int x7), (1, .ref (ad u1))]) Z dX13_of_38 rfl hl (by decide) rfl (fun ls hl => ?_)
      refine lv_goto (tgt := 14) hx hb dX13_of_39 (by decide) ?_
      exact ih _ _ ho8 _ _ _ hS (lv_sub hl [2, 1, 0] rfl) h
set_option maxRecDepth 100000 in
set_option maxHeartbeats 4000000 in
theorem w_X13_of_b {rec : Mem → Nat → Nat → Option Int32} {qf ql : Nat} (hrec : SumC l D A ad S rec qf ql) {i0 : Nat} {a1 : Nat} (hi0 : S i0 = (18, 0)) (ha1 : S a1 = (1, 6)) {r : Int32} (h : f_X13_of_b rec σ i0 a1 = some r) : Met l yX13_of (ws_ yX13_of cX13_of 4 (some .int)) (rm_X13_of_b qf ql) (va_Pc [.ref (ad i0), .ref (ad a1)] (PreG D (Ew D A) A ad S σ)) (QG D A ad S (some (.int r)) σ) 0 0 A := by
  refine y_met (by decide) (Nat.le_of_ble_eq_true rfl) (fun p e s m below meth c ls Z hS hl => ?_)
  have hx := Z.1
  have hb := Z.2.1
  have hown := Z.2.2.2.2.2.1
  have hts := Z.2.2.2.2.2.2.1
  unfold f_X13_of_b at h
  refine lv_aload_n hx hb dX13_of_0 rfl (lv_at hl 0 rfl) ?_
  refine h_getM Z hS cls_8 hi0 (by decide) rfl fl_X13_7_8 dX13_of_1 h (fun j1 hj1 h => ?_)
  refine lv_aload_n hx hb dX13_of_4 rfl (lv_at hl 1 rfl) ?_
  refine h_cSum (rest := []) Z hS hj1 ha1 ve_X13_28 hrec ⟨by show qf + 0 + 1 ≤ qf + 3; omega, by show 8 + (4 + 11) + (ql + 0) ≤ ql + 62; omega⟩ hl.1 (Nat.le_of_ble_eq_true rfl) (Nat.zero_le _) (Nat.zero_le _) dX13_of_5 h (fun x2 H locs hS h => ?_)
  refine lv_istore_n (lv' := [(2, .int x2), (0, .ref (ad i0)), (1, .ref (ad a1))]) hx hb dX13_of_8 rfl hl (by decide) rfl (fun ls hl => ?_)
  refine lv_aload_n hx hb dX13_of_9 rfl (lv_at hl 1 rfl) ?_
  refine h_getQ Z hS cls_8 hi0 (by decide) rfl fl_X13_18_8 dX13_of_10 h (fun o3 ho3 h => ?_)
  refine h_astq_n (o := o3) (lv' := [(3, va_rf (o3.map ad)), (2, .int x2), (0, .ref (ad i0)), (1, .ref (ad a1))]) Z dX13_of_13 rfl hl (by decide) rfl (fun ls hl => ?_)
  refine w_X13_of_b_L14 hrec Z ha1 (fun x9 H locs ls hS hl h => ?_) FU _ _ ho3 _ _ _ hS (lv_sub hl [3, 1, 0] rfl) h
  refine lv_iload_n hx hb dX13_of_42 rfl (lv_at hl 0 rfl) ?_
  exact h_iret Z hS dX13_of_43 h
end
theorem dX14_of_0 : decode cX14_of 0 = .ok (.aload_n 0, 1) := by decide +kernel
theorem dX14_of_1 : decode cX14_of 1 = .ok (.getfield 7, 3) := by decide +kernel
theorem dX14_of_4 : decode cX14_of 4 = .ok (.ireturn, 1) := by decide +kernel
abbrev rm_X14_of : Room := k2_rm 0 0
section
variable {p : Program} {l : Launch} {e : Env} {s : State} {m : MethodId} {args : Array Value} {below : List Frame} {meth : Method} {c : Code} {D : gD} {A : Nat → Prop} {ad : Nat → Nat} {S : Nat → Nat × Nat} {σ : Mem}
set_option maxRecDepth 100000 in
set_option maxHeartbeats 4000000 in
theorem w_X14_of {i0 : Nat} {a1 : Nat} (hi0 : S i0 = (19, 0)) (ha1 : S a1 = (1, 6)) {r : Int32} (h : f_X14_of σ i0 a1 = some r) : Met l yX14_of (ws_ yX14_of cX14_of 2 (some .int)) rm_X14_of (va_Pc [.ref (ad i0), .ref (ad a1)] (PreG D (Ew D A) A ad S σ)) (QG D A ad S (some (.int r)) σ) 0 0 A := by
  refine y_met (by decide) (Nat.le_of_ble_eq_true rfl) (fun p e s m below meth c ls Z hS hl => ?_)
  have hx := Z.1
  have hb := Z.2.1
  have hown := Z.2.2.2.2.2.1
  have hts := Z.2.2.2.2.2.2.1
  unfold f_X14_of at h
  refine lv_aload_n hx hb dX14_of_0 rfl (lv_at hl 0 rfl) ?_
  refine h_getI Z hS cls_9 hi0 (by decide) rfl fl_X14_7_9 dX14_of_1 h (fun x1 h => ?_)
  exact h_iret Z hS dX14_of_4 h
end
theorem dX15_of_0 : decode cX15_of 0 = .ok (.aload_n 1, 1) := by decide +kernel
theorem dX15_of_1 : decode cX15_of 1 = .ok (.aload_n 0, 1) := by decide +kernel
theorem dX15_of_2 : decode cX15_of 2 = .ok (.getfield 7, 3) := by decide +kernel
theorem dX15_of_5 : decode cX15_of 5 = .ok (.iaload, 1) := by decide +kernel
theorem dX15_of_6 : decode cX15_of 6 = .ok (.ireturn, 1) := by decide +kernel
abbrev rm_X15_of : Room := k2_rm 0 0
section
variable {p : Program} {l : Launch} {e : Env} {s : State} {m : MethodId} {args : Array Value} {below : List Frame} {meth : Method} {c : Code} {D : gD} {A : Nat → Prop} {ad : Nat → Nat} {S : Nat → Nat × Nat} {σ : Mem}
set_option maxRecDepth 100000 in
set_option maxHeartbeats 4000000 in
theorem w_X15_of {i0 : Nat} {a1 : Nat} (hi0 : S i0 = (20, 0)) (ha1 : S a1 = (1, 6)) {r : Int32} (h : f_X15_of σ i0 a1 = some r) : Met l yX15_of (ws_ yX15_of cX15_of 2 (some .int)) rm_X15_of (va_Pc [.ref (ad i0), .ref (ad a1)] (PreG D (Ew D A) A ad S σ)) (QG D A ad S (some (.int r)) σ) 0 0 A := by
  refine y_met (by decide) (Nat.le_of_ble_eq_true rfl) (fun p e s m below meth c ls Z hS hl => ?_)
  have hx := Z.1
  have hb := Z.2.1
  have hown := Z.2.2.2.2.2.1
  have hts := Z.2.2.2.2.2.2.1
  unfold f_X15_of at h
  refine lv_aload_n hx hb dX15_of_0 rfl (lv_at hl 1 rfl) ?_
  refine lv_aload_n hx hb dX15_of_1 rfl (lv_at hl 0 rfl) ?_
  refine h_getI Z hS cls_10 hi0 (by decide) rfl fl_X15_7_10 dX15_of_2 h (fun x1 h => ?_)
  refine h_iald Z hS ha1 dX15_of_5 h (fun x2 h => ?_)
  exact h_iret Z hS dX15_of_6 h
end
def rmr_evS : Nat → Nat × Nat
 | 0 => (0, 0)
 | d + 1 => ((rmr_evS d).1 + 3, (rmr_evS d).2 + 62)
theorem w_evS {l : Launch} {D : gD} {A : Nat → Prop} {ad : Nat → Nat} {S : Nat → Nat × Nat} : ∀ d : Nat, SumC l D A ad S (f_evS S d) (rmr_evS d).1 (rmr_evS d).2 := by
  intro d
  induction d with
  | zero => intro σ j L r hL h; cases h
  | succ d ih =>
    intro σ j L r hL h
    unfold f_evS at h
    refine ⟨fun hj => ?_, fun hj => ?_, fun hj => ?_⟩
    · rw [if_pos hj] at h
      exact w_X13_of_b ih hj hL h
    · rw [if_neg (by rw [hj]; decide), if_pos hj] at h
      exact Met.roomy (w_X14_of hj hL h) (Nat.le_trans (Nat.le_of_ble_eq_true rfl) (Nat.le_add_left 3 _)) (Nat.le_trans (Nat.le_of_ble_eq_true rfl) (Nat.le_add_left 62 _))
    · rw [if_neg (by rw [hj]; decide), if_neg (by rw [hj]; decide), if_pos hj] at h
      exact Met.roomy (w_X15_of hj hL h) (Nat.le_trans (Nat.le_of_ble_eq_true rfl) (Nat.le_add_left 3 _)) (Nat.le_trans (Nat.le_of_ble_eq_true rfl) (Nat.le_add_left 62 _))
theorem dX17_holds_0 : decode cX17_holds 0 = .ok (.aload_n 0, 1) := by decide +kernel
theorem dX17_holds_1 : decode cX17_holds 1 = .ok (.getfield 7, 3) := by decide +kernel
theorem dX17_holds_4 : decode cX17_holds 4 = .ok (.aload_n 1, 1) := by decide +kernel
theorem dX17_holds_5 : decode cX17_holds 5 = .ok (.invokevirtual 20, 3) := by decide +kernel
theorem dX17_holds_8 : decode cX17_holds 8 = .ok (.istore_n 2, 1) := by decide +kernel
theorem dX17_holds_9 : decode cX17_holds 9 = .ok (.aload_n 0, 1) := by decide +kernel
theorem dX17_holds_10 : decode cX17_holds 10 = .ok (.getfield 13, 3) := by decide +kernel
theorem dX17_holds_13 : decode cX17_holds 13 = .ok (.aload_n 1, 1) := by decide +kernel
theorem dX17_holds_14 : decode cX17_holds 14 = .ok (.invokevirtual 20, 3) := by decide +kernel
theorem dX17_holds_17 : decode cX17_holds 17 = .ok (.istore_n 3, 1) := by decide +kernel
theorem dX17_holds_18 : decode cX17_holds 18 = .ok (.aload_n 0, 1) := by decide +kernel
theorem dX17_holds_19 : decode cX17_holds 19 = .ok (.getfield 16, 3) := by decide +kernel
theorem dX17_holds_22 : decode cX17_holds 22 = .ok (.bipush 61, 2) := by decide +kernel
theorem dX17_holds_24 : decode cX17_holds 24 = .ok (.if_icmp .ne 16, 3) := by decide +kernel
theorem dX17_holds_27 : decode cX17_holds 27 = .ok (.iload_n 2, 1) := by decide +kernel
theorem dX17_holds_28 : decode cX17_holds 28 = .ok (.iload_n 3, 1) := by decide +kernel
theorem dX17_holds_29 : decode cX17_holds 29 = .ok (.if_icmp .ne 7, 3) := by decide +kernel
theorem dX17_holds_32 : decode cX17_holds 32 = .ok (.iconst 1, 1) := by decide +kernel
theorem dX17_holds_33 : decode cX17_holds 33 = .ok (.goto 39, 3) := by decide +kernel
theorem dX17_holds_36 : decode cX17_holds 36 = .ok (.iconst 0, 1) := by decide +kernel
theorem dX17_holds_37 : decode cX17_holds 37 = .ok (.goto 35, 3) := by decide +kernel
theorem dX17_holds_40 : decode cX17_holds 40 = .ok (.aload_n 0, 1) := by decide +kernel
theorem dX17_holds_41 : decode cX17_holds 41 = .ok (.getfield 16, 3) := by decide +kernel
theorem dX17_holds_44 : decode cX17_holds 44 = .ok (.bipush 60, 2) := by decide +kernel
theorem dX17_holds_46 : decode cX17_holds 46 = .ok (.if_icmp .ne 16, 3) := by decide +kernel
theorem dX17_holds_49 : decode cX17_holds 49 = .ok (.iload_n 2, 1) := by decide +kernel
theorem dX17_holds_50 : decode cX17_holds 50 = .ok (.iload_n 3, 1) := by decide +kernel
theorem dX17_holds_51 : decode cX17_holds 51 = .ok (.if_icmp .ge 7, 3) := by decide +kernel
theorem dX17_holds_54 : decode cX17_holds 54 = .ok (.iconst 1, 1) := by decide +kernel
theorem dX17_holds_55 : decode cX17_holds 55 = .ok (.goto 17, 3) := by decide +kernel
theorem dX17_holds_58 : decode cX17_holds 58 = .ok (.iconst 0, 1) := by decide +kernel
theorem dX17_holds_59 : decode cX17_holds 59 = .ok (.goto 13, 3) := by decide +kernel
theorem dX17_holds_62 : decode cX17_holds 62 = .ok (.iload_n 2, 1) := by decide +kernel
theorem dX17_holds_63 : decode cX17_holds 63 = .ok (.iload_n 3, 1) := by decide +kernel
theorem dX17_holds_64 : decode cX17_holds 64 = .ok (.if_icmp .le 7, 3) := by decide +kernel
theorem dX17_holds_67 : decode cX17_holds 67 = .ok (.iconst 1, 1) := by decide +kernel
theorem dX17_holds_68 : decode cX17_holds 68 = .ok (.goto 4, 3) := by decide +kernel
theorem dX17_holds_71 : decode cX17_holds 71 = .ok (.iconst 0, 1) := by decide +kernel
theorem dX17_holds_72 : decode cX17_holds 72 = .ok (.ireturn, 1) := by decide +kernel
abbrev rm_X17_holds : Room := k2_rm 73 1511
section
variable {p : Program} {l : Launch} {e : Env} {s : State} {m : MethodId} {args : Array Value} {below : List Frame} {meth : Method} {c : Code} {D : gD} {A : Nat → Prop} {ad : Nat → Nat} {S : Nat → Nat × Nat} {σ : Mem}
set_option maxRecDepth 100000 in
set_option maxHeartbeats 4000000 in
theorem w_X17_holds {i0 : Nat} {a1 : Nat} (hi0 : S i0 = (22, 0)) (ha1 : S a1 = (1, 6)) {r : Int32} (h : f_X17_holds σ S i0 a1 = some r) : Met l yX17_holds (ws_ yX17_holds cX17_holds 4 (some .boolean)) rm_X17_holds (va_Pc [.ref (ad i0), .ref (ad a1)] (PreG D (Ew D A) A ad S σ)) (QG D A ad S (some (.int r)) σ) 0 0 A := by
  refine y_met (by decide) (Nat.le_of_ble_eq_true rfl) (fun p e s m below meth c ls Z hS hl => ?_)
  have hx := Z.1
  have hb := Z.2.1
  have hown := Z.2.2.2.2.2.1
  have hts := Z.2.2.2.2.2.2.1
  unfold f_X17_holds at h
  refine lv_aload_n hx hb dX17_holds_0 rfl (lv_at hl 0 rfl) ?_
  refine h_getM Z hS cls_12 hi0 (by decide) rfl fl_X17_7_12 dX17_holds_1 h (fun j1 hj1 h => ?_)
  refine lv_aload_n hx hb dX17_holds_4 rfl (lv_at hl 1 rfl) ?_
  refine h_cSum (rest := []) Z hS hj1 ha1 ve_X17_20 (w_evS 24) ⟨by decide, by decide⟩ hl.1 (Nat.le_of_ble_eq_true rfl) (Nat.zero_le _) (Nat.zero_le _) dX17_holds_5 h (fun x2 H locs hS h => ?_)
  refine lv_istore_n (lv' := [(2, .int x2), (0, .ref (ad i0)), (1, .ref (ad a1))]) hx hb dX17_holds_8 rfl hl (by decide) rfl (fun ls hl => ?_)
  refine lv_aload_n hx hb dX17_holds_9 rfl (lv_at hl 1 rfl) ?_
  refine h_getM Z hS cls_12 hi0 (by decide) rfl fl_X17_13_12 dX17_holds_10 h (fun j3 hj3 h => ?_)
  refine lv_aload_n hx hb dX17_holds_13 rfl (lv_at hl 2 rfl) ?_
  refine h_cSum (rest := []) Z hS hj3 ha1 ve_X17_20 (w_evS 24) ⟨by decide, by decide⟩ hl.1 (Nat.le_of_ble_eq_true rfl) (Nat.zero_le _) (Nat.zero_le _) dX17_holds_14 h (fun x4 H locs hS h => ?_)
  refine lv_istore_n (lv' := [(3, .int x4), (2, .int x2), (0, .ref (ad i0)), (1, .ref (ad a1))]) hx hb dX17_holds_17 rfl hl (by decide) rfl (fun ls hl => ?_)
  refine lv_aload_n hx hb dX17_holds_18 rfl (lv_at hl 2 rfl) ?_
  refine h_getI Z hS cls_12 hi0 (by decide) rfl fl_X17_16_12 dX17_holds_19 h (fun x5 h => ?_)
  refine lv_bipush (v := (61 : Int32)) hx hb dX17_holds_22 (by decide) ?_
  refine lv_icmp_ne (tgt := 40) hx hb dX17_holds_24 (by decide) (fun c6 => ?_) (fun c6 => ?_)
  · have h := if_f h c6
    refine lv_aload_n hx hb dX17_holds_40 rfl (lv_at hl 2 rfl) ?_
    refine h_getI Z hS cls_12 hi0 (by decide) rfl fl_X17_16_12 dX17_holds_41 h (fun x8 h => ?_)
    refine lv_bipush (v := (60 : Int32)) hx hb dX17_holds_44 (by decide) ?_
    refine lv_icmp_ne (tgt := 62) hx hb dX17_holds_46 (by decide) (fun c9 => ?_) (fun c9 => ?_)
    · have h := if_f h c9
      refine lv_iload_n hx hb dX17_holds_62 rfl (lv_at hl 1 rfl) ?_
      refine lv_iload_n hx hb dX17_holds_63 rfl (lv_at hl 0 rfl) ?_
      refine lv_icmp_le (tgt := 71) hx hb dX17_holds_64 (by decide) (fun c11 => ?_) (fun c11 => ?_)
      · have h := if_t h c11
        refine lv_iconst (v := (0 : Int32)) hx hb dX17_holds_71 (by decide) ?_
        exact h_zret Z hS dX17_holds_72 h
      · have h := if_f h c11
        refine lv_iconst (v := (1 : Int32)) hx hb dX17_holds_67 (by decide) ?_
        refine lv_goto (tgt := 72) hx hb dX17_holds_68 (by decide) ?_
        exact h_zret Z hS dX17_holds_72 h
    · have h := if_t h c9
      refine lv_iload_n hx hb dX17_holds_49 rfl (lv_at hl 1 rfl) ?_
      refine lv_iload_n hx hb dX17_holds_50 rfl (lv_at hl 0 rfl) ?_
      refine lv_icmp_ge (tgt := 58) hx hb dX17_holds_51 (by decide) (fun c10 => ?_) (fun c10 => ?_)
      · have h := if_t h c10
        refine lv_iconst (v := (0 : Int32)) hx hb dX17_holds_58 (by decide) ?_
        refine lv_goto (tgt := 72) hx hb dX17_holds_59 (by decide) ?_
        exact h_zret Z hS dX17_holds_72 h
      · have h := if_f h c10
        refine lv_iconst (v := (1 : Int32)) hx hb dX17_holds_54 (by decide) ?_
        refine lv_goto (tgt := 72) hx hb dX17_holds_55 (by decide) ?_
        exact h_zret Z hS dX17_holds_72 h
  · have h := if_t h c6
    refine lv_iload_n hx hb dX17_holds_27 rfl (lv_at hl 1 rfl) ?_
    refine lv_iload_n hx hb dX17_holds_28 rfl (lv_at hl 0 rfl) ?_
    refine lv_icmp_ne (tgt := 36) hx hb dX17_holds_29 (by decide) (fun c7 => ?_) (fun c7 => ?_)
    · have h := if_f h c7
      refine lv_iconst (v := (0 : Int32)) hx hb dX17_holds_36 (by decide) ?_
      refine lv_goto (tgt := 72) hx hb dX17_holds_37 (by decide) ?_
      exact h_zret Z hS dX17_holds_72 h
    · have h := if_t h c7
      refine lv_iconst (v := (1 : Int32)) hx hb dX17_holds_32 (by decide) ?_
      refine lv_goto (tgt := 72) hx hb dX17_holds_33 (by decide) ?_
      exact h_zret Z hS dX17_holds_72 h
end
theorem dX11_holds_0 : decode cX11_holds 0 = .ok (.aload_n 0, 1) := by decide +kernel
theorem dX11_holds_1 : decode cX11_holds 1 = .ok (.getfield 7, 3) := by decide +kernel
theorem dX11_holds_4 : decode cX11_holds 4 = .ok (.aload_n 1, 1) := by decide +kernel
theorem dX11_holds_5 : decode cX11_holds 5 = .ok (.invokeinterface 13 2, 5) := by decide +kernel
theorem dX11_holds_10 : decode cX11_holds 10 = .ok (.ifCond .ne 7, 3) := by decide +kernel
theorem dX11_holds_13 : decode cX11_holds 13 = .ok (.iconst 1, 1) := by decide +kernel
theorem dX11_holds_14 : decode cX11_holds 14 = .ok (.goto 4, 3) := by decide +kernel
theorem dX11_holds_17 : decode cX11_holds 17 = .ok (.iconst 0, 1) := by decide +kernel
theorem dX11_holds_18 : decode cX11_holds 18 = .ok (.ireturn, 1) := by decide +kernel
abbrev rm_X11_holds_b (qf ql : Nat) : Room := k2_rm (qf + 1) (ql + 23)
section
variable {p : Program} {l : Launch} {e : Env} {s : State} {m : MethodId} {args : Array Value} {below : List Frame} {meth : Method} {c : Code} {D : gD} {A : Nat → Prop} {ad : Nat → Nat} {S : Nat → Nat × Nat} {σ : Mem}
set_option maxRecDepth 100000 in
set_option maxHeartbeats 4000000 in
theorem w_X11_holds_b {rec : Mem → Nat → Nat → Option Int32} {qf ql : Nat} (hrec : CondC l D A ad S rec qf ql) {i0 : Nat} {a1 : Nat} (hi0 : S i0 = (17, 0)) (ha1 : S a1 = (1, 6)) {r : Int32} (h : f_X11_holds_b rec σ i0 a1 = some r) : Met l yX11_holds (ws_ yX11_holds cX11_holds 2 (some .boolean)) (rm_X11_holds_b qf ql) (va_Pc [.ref (ad i0), .ref (ad a1)] (PreG D (Ew D A) A ad S σ)) (QG D A ad S (some (.int r)) σ) 0 0 A := by
  refine y_met (by decide) (Nat.le_of_ble_eq_true rfl) (fun p e s m below meth c ls Z hS hl => ?_)
  have hx := Z.1
  have hb := Z.2.1
  have hown := Z.2.2.2.2.2.1
  have hts := Z.2.2.2.2.2.2.1
  unfold f_X11_holds_b at h
  refine lv_aload_n hx hb dX11_holds_0 rfl (lv_at hl 0 rfl) ?_
  refine h_getM Z hS cls_7 hi0 (by decide) rfl fl_X11_7_7 dX11_holds_1 h (fun j1 hj1 h => ?_)
  refine lv_aload_n hx hb dX11_holds_4 rfl (lv_at hl 1 rfl) ?_
  refine h_cCond (rest := []) Z hS hj1 ha1 ve_X11_13 hrec ⟨by show qf + 0 + 1 ≤ qf + 1; omega, by show 8 + (4 + 11) + (ql + 0) ≤ ql + 23; omega⟩ hl.1 (Nat.le_of_ble_eq_true rfl) (Nat.zero_le _) (Nat.zero_le _) dX11_holds_5 h (fun x2 H locs hS h => ?_)
  refine lv_if_ne (tgt := 17) hx hb dX11_holds_10 (by decide) (fun c3 => ?_) (fun c3 => ?_)
  · have h := if_f h c3
    refine lv_iconst (v := (0 : Int32)) hx hb dX11_holds_17 (by decide) ?_
    exact h_zret Z hS dX11_holds_18 h
  · have h := if_t h c3
    refine lv_iconst (v := (1 : Int32)) hx hb dX11_holds_13 (by decide) ?_
    refine lv_goto (tgt := 18) hx hb dX11_holds_14 (by decide) ?_
    exact h_zret Z hS dX11_holds_18 h
end
theorem dX10_holds_0 : decode cX10_holds 0 = .ok (.aload_n 0, 1) := by decide +kernel
theorem dX10_holds_1 : decode cX10_holds 1 = .ok (.astore_n 2, 1) := by decide +kernel
theorem dX10_holds_2 : decode cX10_holds 2 = .ok (.aload_n 2, 1) := by decide +kernel
theorem dX10_holds_3 : decode cX10_holds 3 = .ok (.ifnull 41, 3) := by decide +kernel
theorem dX10_holds_6 : decode cX10_holds 6 = .ok (.aload_n 2, 1) := by decide +kernel
theorem dX10_holds_7 : decode cX10_holds 7 = .ok (.getfield 13, 3) := by decide +kernel
theorem dX10_holds_10 : decode cX10_holds 10 = .ok (.aload_n 1, 1) := by decide +kernel
theorem dX10_holds_11 : decode cX10_holds 11 = .ok (.invokeinterface 17 2, 5) := by decide +kernel
theorem dX10_holds_16 : decode cX10_holds 16 = .ok (.aload_n 0, 1) := by decide +kernel
theorem dX10_holds_17 : decode cX10_holds 17 = .ok (.getfield 7, 3) := by decide +kernel
theorem dX10_holds_20 : decode cX10_holds 20 = .ok (.if_icmp .eq 16, 3) := by decide +kernel
theorem dX10_holds_23 : decode cX10_holds 23 = .ok (.aload_n 0, 1) := by decide +kernel
theorem dX10_holds_24 : decode cX10_holds 24 = .ok (.getfield 7, 3) := by decide +kernel
theorem dX10_holds_27 : decode cX10_holds 27 = .ok (.ifCond .ne 7, 3) := by decide +kernel
theorem dX10_holds_30 : decode cX10_holds 30 = .ok (.iconst 1, 1) := by decide +kernel
theorem dX10_holds_31 : decode cX10_holds 31 = .ok (.goto 4, 3) := by decide +kernel
theorem dX10_holds_34 : decode cX10_holds 34 = .ok (.iconst 0, 1) := by decide +kernel
theorem dX10_holds_35 : decode cX10_holds 35 = .ok (.ireturn, 1) := by decide +kernel
theorem dX10_holds_36 : decode cX10_holds 36 = .ok (.aload_n 2, 1) := by decide +kernel
theorem dX10_holds_37 : decode cX10_holds 37 = .ok (.getfield 23, 3) := by decide +kernel
theorem dX10_holds_40 : decode cX10_holds 40 = .ok (.astore_n 2, 1) := by decide +kernel
theorem dX10_holds_41 : decode cX10_holds 41 = .ok (.goto (-39), 3) := by decide +kernel
theorem dX10_holds_44 : decode cX10_holds 44 = .ok (.aload_n 0, 1) := by decide +kernel
theorem dX10_holds_45 : decode cX10_holds 45 = .ok (.getfield 7, 3) := by decide +kernel
theorem dX10_holds_48 : decode cX10_holds 48 = .ok (.ireturn, 1) := by decide +kernel
abbrev rm_X10_holds_b (qf ql : Nat) : Room := k2_rm (qf + 1) (ql + 23)
section
variable {p : Program} {l : Launch} {e : Env} {s : State} {m : MethodId} {args : Array Value} {below : List Frame} {meth : Method} {c : Code} {D : gD} {A : Nat → Prop} {ad : Nat → Nat} {S : Nat → Nat × Nat} {σ : Mem}
set_option maxRecDepth 100000 in
set_option maxHeartbeats 4000000 in
theorem w_X10_holds_b_L2 {rec : Mem → Nat → Nat → Option Int32} {qf ql : Nat} (hrec : CondC l D A ad S rec qf ql) (Z : Cz D (Ew D A) A cX10_holds 3 (some .boolean) RX10 p s m args meth c) {u0 : Nat} {u1 : Nat} (hu0 : S u0 = (16, 0)) (hu1 : S u1 = (1, 6)) {r : Int32} {k23 : Option Int32} {k44 : Option Int32}
    (hk23 : ∀  (H : Heap) (locs : List Loc) (ls : Array Slot), St D A ad S σ s.heap H locs → lv_has ls 3 [(0, .ref (ad u0))] → k23 = some r → W p l e (rm_X10_holds_b qf ql) s m args below meth c H locs 0 0 (MQ below (QG D A ad S (some (.int r)) σ) args s 0 0 A) (F0 m 23 ls []))
    (hk44 : ∀  (H : Heap) (locs : List Loc) (ls : Array Slot), St D A ad S σ s.heap H locs → lv_has ls 3 [(0, .ref (ad u0))] → k44 = some r → W p l e (rm_X10_holds_b qf ql) s m args below meth c H locs 0 0 (MQ below (QG D A ad S (some (.int r)) σ) args s 0 0 A) (F0 m 44 ls [])) :
    ∀ (n : Nat) (v2 : Option Nat) (hv2 : ∀ t, v2 = some t → S t ∈ [(16, 0)]) (H : Heap) (locs : List Loc) (ls : Array Slot), St D A ad S σ s.heap H locs → lv_has ls 3 [(0, .ref (ad u0)), (1, .ref (ad u1)), (2, va_rf (v2.map ad))] → f_X10_holds_b_L2 rec k23 k44 σ u0 u1 n v2 = some r → W p l e (rm_X10_holds_b qf ql) s m args below meth c H locs 0 0 (MQ below (QG D A ad S (some (.int r)) σ) args s 0 0 A) (F0 m 2 ls []) := by
  have hx := Z.1
  have hb := Z.2.1
  have hown := Z.2.2.2.2.2.1
  have hts := Z.2.2.2.2.2.2.1
  intro n
  induction n with
  | zero => intro v2 hv2 H locs ls hS hl h; cases h
  | succ n ih =>
    intro v2 hv2 H locs ls hS hl h
    unfold f_X10_holds_b_L2 at h
    refine h_aldq_n (o := v2) Z dX10_holds_2 rfl (lv_at hl 2 rfl) ?_
    refine h_ifnull (o := v2) (tgt := 44) Z dX10_holds_3 (by decide) (fun ev2 => ?_) (fun j1 ev2 => ?_)
    · subst ev2
      have hl : lv_has ls 3 [(0, .ref (ad u0)), (1, .ref (ad u1)), (2, .null)] := hl
      exact hk44  _ _ _ hS (lv_sub hl [0] rfl) h
    · subst ev2
      have hj1 := hv2 j1 rfl
      replace hj1 : S j1 = (16, 0) := List.mem_singleton.mp hj1
      have hl : lv_has ls 3 [(0, .ref (ad u0)), (1, .ref (ad u1)), (2, .ref (ad j1))] := hl
      refine lv_aload_n hx hb dX10_holds_6 rfl (lv_at hl 2 rfl) ?_
      refine h_getM Z hS cls_6 hj1 (by decide) rfl fl_X10_13_6 dX10_holds_7 h (fun j2 hj2 h => ?_)
      refine lv_aload_n hx hb dX10_holds_10 rfl (lv_at hl 1 rfl) ?_
      refine h_cCond (rest := []) Z hS hj2 hu1 ve_X10_17 hrec ⟨by show qf + 0 + 1 ≤ qf + 1; omega, by show 8 + (4 + 11) + (ql + 0) ≤ ql + 23; omega⟩ hl.1 (Nat.le_of_ble_eq_true rfl) (Nat.zero_le _) (Nat.zero_le _) dX10_holds_11 h (fun x3 H locs hS h => ?_)
      refine lv_aload_n hx hb dX10_holds_16 rfl (lv_at hl 0 rfl) ?_
      refine h_getI Z hS cls_6 hu0 (by decide) rfl fl_X10_7_6 dX10_holds_17 h (fun x4 h => ?_)
      refine lv_icmp_eq (tgt := 36) hx hb dX10_holds_20 (by decide) (fun c5 => ?_) (fun c5 => ?_)
      · have h := if_t h c5
        refine lv_aload_n hx hb dX10_holds_36 rfl (lv_at hl 2 rfl) ?_
        refine h_getQ Z hS cls_6 hj1 (by decide) rfl fl_X10_23_6 dX10_holds_37 h (fun o6 ho6 h => ?_)
        refine h_astq_n (o := o6) (lv' := [(2, va_rf (o6.map ad)), (0, .ref (ad u0)), (1, .ref (ad u1))]) Z dX10_holds_40 rfl hl (by decide) rfl (fun ls hl => ?_)
        refine lv_goto (tgt := 2) hx hb dX10_holds_41 (by decide) ?_
        exact ih _ ho6 _ _ _ hS (lv_sub hl [1, 2, 0] rfl) h
      · have h := if_f h c5
        exact hk23  _ _ _ hS (lv_sub hl [0] rfl) h
set_option maxRecDepth 100000 in
set_option maxHeartbeats 4000000 in
theorem w_X10_holds_b {rec : Mem → Nat → Nat → Option Int32} {qf ql : Nat} (hrec : CondC l D A ad S rec qf ql) {i0 : Nat} {a1 : Nat} (hi0 : S i0 = (16, 0)) (ha1 : S a1 = (1, 6)) {r : Int32} (h : f_X10_holds_b rec σ i0 a1 = some r) : Met l yX10_holds (ws_ yX10_holds cX10_holds 3 (some .boolean)) (rm_X10_holds_b qf ql) (va_Pc [.ref (ad i0), .ref (ad a1)] (PreG D (Ew D A) A ad S σ)) (QG D A ad S (some (.int r)) σ) 0 0 A := by
  refine y_met (by decide) (Nat.le_of_ble_eq_true rfl) (fun p e s m below meth c ls Z hS hl => ?_)
  have hx := Z.1
  have hb := Z.2.1
  have hown := Z.2.2.2.2.2.1
  have hts := Z.2.2.2.2.2.2.1
  unfold f_X10_holds_b at h
  refine lv_aload_n hx hb dX10_holds_0 rfl (lv_at hl 0 rfl) ?_
  refine lv_astore_n (lv' := [(2, .ref (ad i0)), (0, .ref (ad i0)), (1, .ref (ad a1))]) hx hb dX10_holds_1 rfl hl (by decide) rfl (fun ls hl => ?_)
  refine w_X10_holds_b_L2 hrec Z hi0 ha1 (fun  H locs ls hS hl h => ?_) (fun  H locs ls hS hl h => ?_) FU _ (fun t ht => by cases ht; rw [hi0]; exact List.mem_singleton.mpr rfl) _ _ _ hS (lv_sub hl [1, 2, 0] rfl) h
  · refine lv_aload_n hx hb dX10_holds_23 rfl (lv_at hl 0 rfl) ?_
    refine h_getI Z hS cls_6 hi0 (by decide) rfl fl_X10_7_6 dX10_holds_24 h (fun x7 h => ?_)
    refine lv_if_ne (tgt := 34) hx hb dX10_holds_27 (by decide) (fun c8 => ?_) (fun c8 => ?_)
    · have h := if_f h c8
      refine lv_iconst (v := (0 : Int32)) hx hb dX10_holds_34 (by decide) ?_
      exact h_zret Z hS dX10_holds_35 h
    · have h := if_t h c8
      refine lv_iconst (v := (1 : Int32)) hx hb dX10_holds_30 (by decide) ?_
      refine lv_goto (tgt := 35) hx hb dX10_holds_31 (by decide) ?_
      exact h_zret Z hS dX10_holds_35 h
  · refine lv_aload_n hx hb dX10_holds_44 rfl (lv_at hl 0 rfl) ?_
    refine h_getI Z hS cls_6 hi0 (by decide) rfl fl_X10_7_6 dX10_holds_45 h (fun x9 h => ?_)
    exact h_zret Z hS dX10_holds_48 h
end
def rmr_evC : Nat → Nat × Nat
 | 0 => (73, 1511)
 | d + 1 => ((rmr_evC d).1 + 1, (rmr_evC d).2 + 23)
theorem rmr_evC_ge : ∀ d : Nat, 73 ≤ (rmr_evC d).1 ∧ 1511 ≤ (rmr_evC d).2 := by
  intro d
  induction d with
  | zero => exact ⟨Nat.le_refl _, Nat.le_refl _⟩
  | succ d ih => exact ⟨Nat.le_trans ih.1 (Nat.le_add_right _ _), Nat.le_trans ih.2 (Nat.le_add_right _ _)⟩
theorem w_evC {l : Launch} {D : gD} {A : Nat → Prop} {ad : Nat → Nat} {S : Nat → Nat × Nat} : ∀ d : Nat, CondC l D A ad S (f_evC S d) (rmr_evC d).1 (rmr_evC d).2 := by
  intro d
  induction d with
  | zero => intro σ j L r hL h; cases h
  | succ d ih =>
    intro σ j L r hL h
    unfold f_evC at h
    refine ⟨fun hj => ?_, fun hj => ?_, fun hj => ?_⟩
    · rw [if_pos hj] at h
      exact Met.roomy (w_X17_holds hj hL h) (rmr_evC_ge (d + 1)).1 (rmr_evC_ge (d + 1)).2
    · rw [if_neg (by rw [hj]; decide), if_pos hj] at h
      exact Met.roomy (w_X11_holds_b ih hj hL h) (Nat.add_le_add_left (Nat.le_of_ble_eq_true rfl) _) (Nat.add_le_add_left (Nat.le_of_ble_eq_true rfl) _)
    · rw [if_neg (by rw [hj]; decide), if_neg (by rw [hj]; decide), if_pos hj] at h
      exact Met.roomy (w_X10_holds_b ih hj hL h) (Nat.add_le_add_left (Nat.le_of_ble_eq_true rfl) _) (Nat.add_le_add_left (Nat.le_of_ble_eq_true rfl) _)
theorem dX18_worth_0 : decode cX18_worth 0 = .ok (.aload_n 0, 1) := by decide +kernel
theorem dX18_worth_1 : decode cX18_worth 1 = .ok (.astore_n 3, 1) := by decide +kernel
theorem dX18_worth_2 : decode cX18_worth 2 = .ok (.aload_n 3, 1) := by decide +kernel
theorem dX18_worth_3 : decode cX18_worth 3 = .ok (.ifnull 48, 3) := by decide +kernel
theorem dX18_worth_6 : decode cX18_worth 6 = .ok (.aload_n 3, 1) := by decide +kernel
theorem dX18_worth_7 : decode cX18_worth 7 = .ok (.getfield 7, 3) := by decide +kernel
theorem dX18_worth_10 : decode cX18_worth 10 = .ok (.iload_n 1, 1) := by decide +kernel
theorem dX18_worth_11 : decode cX18_worth 11 = .ok (.if_icmp .ne 32, 3) := by decide +kernel
theorem dX18_worth_14 : decode cX18_worth 14 = .ok (.aload_n 3, 1) := by decide +kernel
theorem dX18_worth_15 : decode cX18_worth 15 = .ok (.getfield 13, 3) := by decide +kernel
theorem dX18_worth_18 : decode cX18_worth 18 = .ok (.ifnull 16, 3) := by decide +kernel
theorem dX18_worth_21 : decode cX18_worth 21 = .ok (.aload_n 3, 1) := by decide +kernel
theorem dX18_worth_22 : decode cX18_worth 22 = .ok (.getfield 13, 3) := by decide +kernel
theorem dX18_worth_25 : decode cX18_worth 25 = .ok (.aload_n 2, 1) := by decide +kernel
theorem dX18_worth_26 : decode cX18_worth 26 = .ok (.invokeinterface 21 2, 5) := by decide +kernel
theorem dX18_worth_31 : decode cX18_worth 31 = .ok (.ifCond .eq 12, 3) := by decide +kernel
theorem dX18_worth_34 : decode cX18_worth 34 = .ok (.aload_n 3, 1) := by decide +kernel
theorem dX18_worth_35 : decode cX18_worth 35 = .ok (.getfield 17, 3) := by decide +kernel
theorem dX18_worth_38 : decode cX18_worth 38 = .ok (.aload_n 2, 1) := by decide +kernel
theorem dX18_worth_39 : decode cX18_worth 39 = .ok (.invokevirtual 27, 3) := by decide +kernel
theorem dX18_worth_42 : decode cX18_worth 42 = .ok (.ireturn, 1) := by decide +kernel
theorem dX18_worth_43 : decode cX18_worth 43 = .ok (.aload_n 3, 1) := by decide +kernel
theorem dX18_worth_44 : decode cX18_worth 44 = .ok (.getfield 33, 3) := by decide +kernel
theorem dX18_worth_47 : decode cX18_worth 47 = .ok (.astore_n 3, 1) := by decide +kernel
theorem dX18_worth_48 : decode cX18_worth 48 = .ok (.goto (-46), 3) := by decide +kernel
theorem dX18_worth_51 : decode cX18_worth 51 = .ok (.iconst 0, 1) := by decide +kernel
theorem dX18_worth_52 : decode cX18_worth 52 = .ok (.ireturn, 1) := by decide +kernel
abbrev rm_X18_worth : Room := k2_rm 98 2086
section
variable {p : Program} {l : Launch} {e : Env} {s : State} {m : MethodId} {args : Array Value} {below : List Frame} {meth : Method} {c : Code} {D : gD} {A : Nat → Prop} {ad : Nat → Nat} {S : Nat → Nat × Nat} {σ : Mem}
set_option maxRecDepth 100000 in
set_option maxHeartbeats 4000000 in
theorem w_X18_worth_L2 (Z : Cz D (Ew D A) A cX18_worth 4 (some .int) RX18 p s m args meth c) {u1 : Int32} {u2 : Nat} (hu2 : S u2 = (1, 6)) {r : Int32} {k34 : Nat → Option Int32} {k51 : Option Int32}
    (hk34 : ∀ (w3 : Nat) (hw3 : S w3 = (23, 0)) (H : Heap) (locs : List Loc) (ls : Array Slot), St D A ad S σ s.heap H locs → lv_has ls 4 [(2, .ref (ad u2)), (3, .ref (ad w3))] → k34 w3 = some r → W p l e rm_X18_worth s m args below meth c H locs 0 0 (MQ below (QG D A ad S (some (.int r)) σ) args s 0 0 A) (F0 m 34 ls []))
    (hk51 : ∀  (H : Heap) (locs : List Loc) (ls : Array Slot), St D A ad S σ s.heap H locs → lv_has ls 4 [] → k51 = some r → W p l e rm_X18_worth s m args below meth c H locs 0 0 (MQ below (QG D A ad S (some (.int r)) σ) args s 0 0 A) (F0 m 51 ls [])) :
    ∀ (n : Nat) (v3 : Option Nat) (hv3 : ∀ t, v3 = some t → S t ∈ [(23, 0)]) (H : Heap) (locs : List Loc) (ls : Array Slot), St D A ad S σ s.heap H locs → lv_has ls 4 [(1, .int u1), (2, .ref (ad u2)), (3, va_rf (v3.map ad))] → f_X18_worth_L2 S k34 k51 σ u1 u2 n v3 = some r → W p l e rm_X18_worth s m args below meth c H locs 0 0 (MQ below (QG D A ad S (some (.int r)) σ) args s 0 0 A) (F0 m 2 ls []) := by
  have hx := Z.1
  have hb := Z.2.1
  have hown := Z.2.2.2.2.2.1
  have hts := Z.2.2.2.2.2.2.1
  intro n
  induction n with
  | zero => intro v3 hv3 H locs ls hS hl h; cases h
  | succ n ih =>
    intro v3 hv3 H locs ls hS hl h
    unfold f_X18_worth_L2 at h
    refine h_aldq_n (o := v3) Z dX18_worth_2 rfl (lv_at hl 2 rfl) ?_
    refine h_ifnull (o := v3) (tgt := 51) Z dX18_worth_3 (by decide) (fun ev3 => ?_) (fun j1 ev3 => ?_)
    · subst ev3
      have hl : lv_has ls 4 [(1, .int u1), (2, .ref (ad u2)), (3, .null)] := hl
      exact hk51  _ _ _ hS (lv_sub hl [] rfl) h
    · subst ev3
      have hj1 := hv3 j1 rfl
      replace hj1 : S j1 = (23, 0) := List.mem_singleton.mp hj1
      have hl : lv_has ls 4 [(1, .int u1), (2, .ref (ad u2)), (3, .ref (ad j1))] := hl
      refine lv_aload_n hx hb dX18_worth_6 rfl (lv_at hl 2 rfl) ?_
      refine h_getI Z hS cls_13 hj1 (by decide) rfl fl_X18_7_13 dX18_worth_7 h (fun x2 h => ?_)
      refine lv_iload_n hx hb dX18_worth_10 rfl (lv_at hl 0 rfl) ?_
      refine lv_icmp_ne (tgt := 43) hx hb dX18_worth_11 (by decide) (fun c3 => ?_) (fun c3 => ?_)
      · have h := if_f h c3
        refine lv_aload_n hx hb dX18_worth_43 rfl (lv_at hl 2 rfl) ?_
        refine h_getQ Z hS cls_13 hj1 (by decide) rfl fl_X18_33_13 dX18_worth_44 h (fun o10 ho10 h => ?_)
        refine h_astq_n (o := o10) (lv' := [(3, va_rf (o10.map ad)), (1, .int u1), (2, .ref (ad u2))]) Z dX18_worth_47 rfl hl (by decide) rfl (fun ls hl => ?_)
        refine lv_goto (tgt := 2) hx hb dX18_worth_48 (by decide) ?_
        exact ih _ ho10 _ _ _ hS (lv_sub hl [1, 2, 0] rfl) h
      · have h := if_t h c3
        refine lv_aload_n hx hb dX18_worth_14 rfl (lv_at hl 2 rfl) ?_
        refine h_getQ Z hS cls_13 hj1 (by decide) rfl fl_X18_13_13 dX18_worth_15 h (fun o4 ho4 h => ?_)
        refine h_ifnull (o := o4) (tgt := 34) Z dX18_worth_18 (by decide) (fun eo4 => ?_) (fun j5 eo4 => ?_)
        · subst eo4
          exact hk34 _ hj1 _ _ _ hS (lv_sub hl [1, 2] rfl) h
        · subst eo4
          have hj5 := ho4 j5 rfl
          refine lv_aload_n hx hb dX18_worth_21 rfl (lv_at hl 2 rfl) ?_
          refine h_getM Z hS cls_13 hj1 (by decide) rfl fl_X18_13_13 dX18_worth_22 h (fun j6 hj6 h => ?_)
          refine lv_aload_n hx hb dX18_worth_25 rfl (lv_at hl 1 rfl) ?_
          refine h_cCond (rest := []) Z hS hj6 hu2 ve_X18_21 (w_evC 24) ⟨by decide, by decide⟩ hl.1 (Nat.le_of_ble_eq_true rfl) (Nat.zero_le _) (Nat.zero_le _) dX18_worth_26 h (fun x7 H locs hS h => ?_)
          refine lv_if_eq (tgt := 43) hx hb dX18_worth_31 (by decide) (fun c8 => ?_) (fun c8 => ?_)
          · have h := if_t h c8
            refine lv_aload_n hx hb dX18_worth_43 rfl (lv_at hl 2 rfl) ?_
            refine h_getQ Z hS cls_13 hj1 (by decide) rfl fl_X18_33_13 dX18_worth_44 h (fun o9 ho9 h => ?_)
            refine h_astq_n (o := o9) (lv' := [(3, va_rf (o9.map ad)), (1, .int u1), (2, .ref (ad u2))]) Z dX18_worth_47 rfl hl (by decide) rfl (fun ls hl => ?_)
            refine lv_goto (tgt := 2) hx hb dX18_worth_48 (by decide) ?_
            exact ih _ ho9 _ _ _ hS (lv_sub hl [1, 2, 0] rfl) h
          · have h := if_f h c8
            exact hk34 _ hj1 _ _ _ hS (lv_sub hl [1, 2] rfl) h
set_option maxRecDepth 100000 in
set_option maxHeartbeats 4000000 in
theorem w_X18_worth {i0 : Nat} {a1 : Int32} {a2 : Nat} (hi0 : S i0 = (23, 0)) (ha2 : S a2 = (1, 6)) {r : Int32} (h : f_X18_worth σ S i0 a1 a2 = some r) : Met l yX18_worth (ws_ yX18_worth cX18_worth 4 (some .int)) rm_X18_worth (va_Pc [.ref (ad i0), .int a1, .ref (ad a2)] (PreG D (Ew D A) A ad S σ)) (QG D A ad S (some (.int r)) σ) 0 0 A := by
  refine y_met (by decide) (Nat.le_of_ble_eq_true rfl) (fun p e s m below meth c ls Z hS hl => ?_)
  have hx := Z.1
  have hb := Z.2.1
  have hown := Z.2.2.2.2.2.1
  have hts := Z.2.2.2.2.2.2.1
  unfold f_X18_worth at h
  refine lv_aload_n hx hb dX18_worth_0 rfl (lv_at hl 0 rfl) ?_
  refine lv_astore_n (lv' := [(3, .ref (ad i0)), (0, .ref (ad i0)), (1, .int a1), (2, .ref (ad a2))]) hx hb dX18_worth_1 rfl hl (by decide) rfl (fun ls hl => ?_)
  refine w_X18_worth_L2 Z ha2 (fun j11 hj11 H locs ls hS hl h => ?_) (fun  H locs ls hS hl h => ?_) FU _ (fun t ht => by cases ht; rw [hi0]; exact List.mem_singleton.mpr rfl) _ _ _ hS (lv_sub hl [2, 3, 0] rfl) h
  · refine lv_aload_n hx hb dX18_worth_34 rfl (lv_at hl 1 rfl) ?_
    refine h_getM Z hS cls_13 hj11 (by decide) rfl fl_X18_17_13 dX18_worth_35 h (fun j12 hj12 h => ?_)
    refine lv_aload_n hx hb dX18_worth_38 rfl (lv_at hl 0 rfl) ?_
    refine h_cSum (rest := []) Z hS hj12 ha2 ve_X18_27 (w_evS 24) ⟨by decide, by decide⟩ hl.1 (Nat.le_of_ble_eq_true rfl) (Nat.zero_le _) (Nat.zero_le _) dX18_worth_39 h (fun x13 H locs hS h => ?_)
    exact h_iret Z hS dX18_worth_42 h
  · refine lv_iconst (v := (0 : Int32)) hx hb dX18_worth_51 (by decide) ?_
    exact h_iret Z hS dX18_worth_52 h
end
theorem dX4_empties_0 : decode cX4_empties 0 = .ok (.iconst 0, 1) := by decide +kernel
theorem dX4_empties_1 : decode cX4_empties 1 = .ok (.istore_n 2, 1) := by decide +kernel
theorem dX4_empties_2 : decode cX4_empties 2 = .ok (.iload_n 2, 1) := by decide +kernel
theorem dX4_empties_3 : decode cX4_empties 3 = .ok (.bipush 8, 2) := by decide +kernel
theorem dX4_empties_5 : decode cX4_empties 5 = .ok (.if_icmp .ge 28, 3) := by decide +kernel
theorem dX4_empties_8 : decode cX4_empties 8 = .ok (.aload_n 1, 1) := by decide +kernel
theorem dX4_empties_9 : decode cX4_empties 9 = .ok (.iload_n 2, 1) := by decide +kernel
theorem dX4_empties_10 : decode cX4_empties 10 = .ok (.dup2, 1) := by decide +kernel
theorem dX4_empties_11 : decode cX4_empties 11 = .ok (.iaload, 1) := by decide +kernel
theorem dX4_empties_12 : decode cX4_empties 12 = .ok (.aload_n 0, 1) := by decide +kernel
theorem dX4_empties_13 : decode cX4_empties 13 = .ok (.getfield 9, 3) := by decide +kernel
theorem dX4_empties_16 : decode cX4_empties 16 = .ok (.iload_n 2, 1) := by decide +kernel
theorem dX4_empties_17 : decode cX4_empties 17 = .ok (.iaload, 1) := by decide +kernel
theorem dX4_empties_18 : decode cX4_empties 18 = .ok (.iadd, 1) := by decide +kernel
theorem dX4_empties_19 : decode cX4_empties 19 = .ok (.iastore, 1) := by decide +kernel
theorem dX4_empties_20 : decode cX4_empties 20 = .ok (.aload_n 0, 1) := by decide +kernel
theorem dX4_empties_21 : decode cX4_empties 21 = .ok (.getfield 9, 3) := by decide +kernel
theorem dX4_empties_24 : decode cX4_empties 24 = .ok (.iload_n 2, 1) := by decide +kernel
theorem dX4_empties_25 : decode cX4_empties 25 = .ok (.iconst 0, 1) := by decide +kernel
theorem dX4_empties_26 : decode cX4_empties 26 = .ok (.iastore, 1) := by decide +kernel
theorem dX4_empties_27 : decode cX4_empties 27 = .ok (.iinc 2 1, 3) := by decide +kernel
theorem dX4_empties_30 : decode cX4_empties 30 = .ok (.goto (-28), 3) := by decide +kernel
theorem dX4_empties_33 : decode cX4_empties 33 = .ok (.return_, 1) := by decide +kernel
abbrev rm_X4_empties_3 : Room := k2_rm 0 0
section
variable {p : Program} {l : Launch} {e : Env} {s : State} {m : MethodId} {args : Array Value} {below : List Frame} {meth : Method} {c : Code} {D : gD} {A : Nat → Prop} {ad : Nat → Nat} {S : Nat → Nat × Nat} {σ : Mem}
set_option maxRecDepth 100000 in
set_option maxHeartbeats 4000000 in
theorem w_X4_empties_3_L2 (Z : Cz D (Ew D A) A cX4_empties 3 none RX4 p s m args meth c) {u0 : Nat} {u1 : Nat} (hu0 : S u0 = (13, 0)) (hu1 : S u1 = (1, 8)) {r : Mem} {k33 : Mem → Option Mem}
    (hk33 : ∀ (σ : Mem)  (H : Heap) (locs : List Loc) (ls : Array Slot), St D A ad S σ s.heap H locs → lv_has ls 3 [] → k33 σ = some r → W p l e rm_X4_empties_3 s m args below meth c H locs 0 0 (MQ below (QG D A ad S none r) args s 0 0 A) (F0 m 33 ls [])) :
    ∀ (n : Nat) (σ : Mem) (v2 : Int32) (H : Heap) (locs : List Loc) (ls : Array Slot), St D A ad S σ s.heap H locs → lv_has ls 3 [(0, .ref (ad u0)), (1, .ref (ad u1)), (2, .int v2)] → f_X4_empties_L2 k33 u0 u1 n σ v2 = some r → W p l e rm_X4_empties_3 s m args below meth c H locs 0 0 (MQ below (QG D A ad S none r) args s 0 0 A) (F0 m 2 ls []) := by
  have hx := Z.1
  have hb := Z.2.1
  have hown := Z.2.2.2.2.2.1
  have hts := Z.2.2.2.2.2.2.1
  intro n
  induction n with
  | zero => intro σ v2 H locs ls hS hl h; cases h
  | succ n ih =>
    intro σ v2 H locs ls hS hl h
    unfold f_X4_empties_L2 at h
    refine lv_iload_n hx hb dX4_empties_2 rfl (lv_at hl 2 rfl) ?_
    refine lv_bipush (v := (8 : Int32)) hx hb dX4_empties_3 (by decide) ?_
    refine lv_icmp_ge (tgt := 33) hx hb dX4_empties_5 (by decide) (fun c1 => ?_) (fun c1 => ?_)
    · have h := if_t h c1
      exact hk33 _ _ _ _ hS (lv_sub hl [] rfl) h
    · have h := if_f h c1
      refine lv_aload_n hx hb dX4_empties_8 rfl (lv_at hl 1 rfl) ?_
      refine lv_iload_n hx hb dX4_empties_9 rfl (lv_at hl 2 rfl) ?_
      refine lv_dup2_11 hx hb dX4_empties_10 rfl rfl ?_
      refine h_iald Z hS hu1 dX4_empties_11 h (fun x2 h => ?_)
      refine lv_aload_n hx hb dX4_empties_12 rfl (lv_at hl 0 rfl) ?_
      refine h_getC (n := 1) (j := (u0 + 1)) (sh := (1, 8)) Z hS cls_3 hu0 (by decide) rfl rfl rfl fl_X4_9_3 dX4_empties_13 (fun hc3 => ?_)
      refine lv_iload_n hx hb dX4_empties_16 rfl (lv_at hl 2 rfl) ?_
      refine h_iald Z hS hc3 dX4_empties_17 h (fun x4 h => ?_)
      refine lv_iadd hx hb dX4_empties_18 ?_
      refine h_iast Z hS hu1 dX4_empties_19 h (fun σ5 H locs hS h => ?_)
      refine lv_aload_n hx hb dX4_empties_20 rfl (lv_at hl 0 rfl) ?_
      refine h_getC (n := 1) (j := (u0 + 1)) (sh := (1, 8)) Z hS cls_3 hu0 (by decide) rfl rfl rfl fl_X4_9_3 dX4_empties_21 (fun hc6 => ?_)
      refine lv_iload_n hx hb dX4_empties_24 rfl (lv_at hl 2 rfl) ?_
      refine lv_iconst (v := (0 : Int32)) hx hb dX4_empties_25 (by decide) ?_
      refine h_iast Z hS hc6 dX4_empties_26 h (fun σ7 H locs hS h => ?_)
      refine lv_iinc (v := (v2 + (1 : Int32))) (lv' := [(2, .int (v2 + (1 : Int32))), (0, .ref (ad u0)), (1, .ref (ad u1))]) hx hb dX4_empties_27 hl (k := 2) rfl rfl (by decide) rfl (fun ls hl => ?_)
      refine lv_goto (tgt := 2) hx hb dX4_empties_30 (by decide) ?_
      exact ih _ _ _ _ _ hS (lv_sub hl [1, 2, 0] rfl) h
set_option maxRecDepth 100000 in
set_option maxHeartbeats 4000000 in
theorem w_X4_empties_3 {i0 : Nat} {a1 : Nat} (hi0 : S i0 = (13, 0)) (ha1 : S a1 = (1, 8)) {r : Mem} (h : f_X4_empties σ i0 a1 = some r) : Met l yX4_empties (ws_ yX4_empties cX4_empties 3 none) rm_X4_empties_3 (va_Pc [.ref (ad i0), .ref (ad a1)] (PreG D (Ew D A) A ad S σ)) (QG D A ad S none r) 0 0 A := by
  refine y_met (by decide) (Nat.le_of_ble_eq_true rfl) (fun p e s m below meth c ls Z hS hl => ?_)
  have hx := Z.1
  have hb := Z.2.1
  have hown := Z.2.2.2.2.2.1
  have hts := Z.2.2.2.2.2.2.1
  unfold f_X4_empties at h
  refine lv_iconst (v := (0 : Int32)) hx hb dX4_empties_0 (by decide) ?_
  refine lv_istore_n (lv' := [(2, .int (0 : Int32)), (0, .ref (ad i0)), (1, .ref (ad a1))]) hx hb dX4_empties_1 rfl hl (by decide) rfl (fun ls hl => ?_)
  refine w_X4_empties_3_L2 Z hi0 ha1 (fun σ8 H locs ls hS hl h => ?_) FU _ _ _ _ _ hS (lv_sub hl [1, 2, 0] rfl) h
  exact h_vret Z hS dX4_empties_33 h
end
abbrev rm_X4_empties_4 : Room := k2_rm 0 0
section
variable {p : Program} {l : Launch} {e : Env} {s : State} {m : MethodId} {args : Array Value} {below : List Frame} {meth : Method} {c : Code} {D : gD} {A : Nat → Prop} {ad : Nat → Nat} {S : Nat → Nat × Nat} {σ : Mem}
set_option maxRecDepth 100000 in
set_option maxHeartbeats 4000000 in
theorem w_X4_empties_4_L2 (Z : Cz D (Ew D A) A cX4_empties 3 none RX4 p s m args meth c) {u0 : Nat} {u1 : Nat} (hu0 : S u0 = (14, 0)) (hu1 : S u1 = (1, 8)) {r : Mem} {k33 : Mem → Option Mem}
    (hk33 : ∀ (σ : Mem)  (H : Heap) (locs : List Loc) (ls : Array Slot), St D A ad S σ s.heap H locs → lv_has ls 3 [] → k33 σ = some r → W p l e rm_X4_empties_4 s m args below meth c H locs 0 0 (MQ below (QG D A ad S none r) args s 0 0 A) (F0 m 33 ls [])) :
    ∀ (n : Nat) (σ : Mem) (v2 : Int32) (H : Heap) (locs : List Loc) (ls : Array Slot), St D A ad S σ s.heap H locs → lv_has ls 3 [(0, .ref (ad u0)), (1, .ref (ad u1)), (2, .int v2)] → f_X4_empties_L2 k33 u0 u1 n σ v2 = some r → W p l e rm_X4_empties_4 s m args below meth c H locs 0 0 (MQ below (QG D A ad S none r) args s 0 0 A) (F0 m 2 ls []) := by
  have hx := Z.1
  have hb := Z.2.1
  have hown := Z.2.2.2.2.2.1
  have hts := Z.2.2.2.2.2.2.1
  intro n
  induction n with
  | zero => intro σ v2 H locs ls hS hl h; cases h
  | succ n ih =>
    intro σ v2 H locs ls hS hl h
    unfold f_X4_empties_L2 at h
    refine lv_iload_n hx hb dX4_empties_2 rfl (lv_at hl 2 rfl) ?_
    refine lv_bipush (v := (8 : Int32)) hx hb dX4_empties_3 (by decide) ?_
    refine lv_icmp_ge (tgt := 33) hx hb dX4_empties_5 (by decide) (fun c1 => ?_) (fun c1 => ?_)
    · have h := if_t h c1
      exact hk33 _ _ _ _ hS (lv_sub hl [] rfl) h
    · have h := if_f h c1
      refine lv_aload_n hx hb dX4_empties_8 rfl (lv_at hl 1 rfl) ?_
      refine lv_iload_n hx hb dX4_empties_9 rfl (lv_at hl 2 rfl) ?_
      refine lv_dup2_11 hx hb dX4_empties_10 rfl rfl ?_
      refine h_iald Z hS hu1 dX4_empties_11 h (fun x2 h => ?_)
      refine lv_aload_n hx hb dX4_empties_12 rfl (lv_at hl 0 rfl) ?_
      refine h_getC (n := 1) (j := (u0 + 1)) (sh := (1, 8)) Z hS cls_4 hu0 (by decide) rfl rfl rfl fl_X4_9_4 dX4_empties_13 (fun hc3 => ?_)
      refine lv_iload_n hx hb dX4_empties_16 rfl (lv_at hl 2 rfl) ?_
      refine h_iald Z hS hc3 dX4_empties_17 h (fun x4 h => ?_)
      refine lv_iadd hx hb dX4_empties_18 ?_
      refine h_iast Z hS hu1 dX4_empties_19 h (fun σ5 H locs hS h => ?_)
      refine lv_aload_n hx hb dX4_empties_20 rfl (lv_at hl 0 rfl) ?_
      refine h_getC (n := 1) (j := (u0 + 1)) (sh := (1, 8)) Z hS cls_4 hu0 (by decide) rfl rfl rfl fl_X4_9_4 dX4_empties_21 (fun hc6 => ?_)
      refine lv_iload_n hx hb dX4_empties_24 rfl (lv_at hl 2 rfl) ?_
      refine lv_iconst (v := (0 : Int32)) hx hb dX4_empties_25 (by decide) ?_
      refine h_iast Z hS hc6 dX4_empties_26 h (fun σ7 H locs hS h => ?_)
      refine lv_iinc (v := (v2 + (1 : Int32))) (lv' := [(2, .int (v2 + (1 : Int32))), (0, .ref (ad u0)), (1, .ref (ad u1))]) hx hb dX4_empties_27 hl (k := 2) rfl rfl (by decide) rfl (fun ls hl => ?_)
      refine lv_goto (tgt := 2) hx hb dX4_empties_30 (by decide) ?_
      exact ih _ _ _ _ _ hS (lv_sub hl [1, 2, 0] rfl) h
set_option maxRecDepth 100000 in
set_option maxHeartbeats 4000000 in
theorem w_X4_empties_4 {i0 : Nat} {a1 : Nat} (hi0 : S i0 = (14, 0)) (ha1 : S a1 = (1, 8)) {r : Mem} (h : f_X4_empties σ i0 a1 = some r) : Met l yX4_empties (ws_ yX4_empties cX4_empties 3 none) rm_X4_empties_4 (va_Pc [.ref (ad i0), .ref (ad a1)] (PreG D (Ew D A) A ad S σ)) (QG D A ad S none r) 0 0 A := by
  refine y_met (by decide) (Nat.le_of_ble_eq_true rfl) (fun p e s m below meth c ls Z hS hl => ?_)
  have hx := Z.1
  have hb := Z.2.1
  have hown := Z.2.2.2.2.2.1
  have hts := Z.2.2.2.2.2.2.1
  unfold f_X4_empties at h
  refine lv_iconst (v := (0 : Int32)) hx hb dX4_empties_0 (by decide) ?_
  refine lv_istore_n (lv' := [(2, .int (0 : Int32)), (0, .ref (ad i0)), (1, .ref (ad a1))]) hx hb dX4_empties_1 rfl hl (by decide) rfl (fun ls hl => ?_)
  refine w_X4_empties_4_L2 Z hi0 ha1 (fun σ8 H locs ls hS hl h => ?_) FU _ _ _ _ _ hS (lv_sub hl [1, 2, 0] rfl) h
  exact h_vret Z hS dX4_empties_33 h
end
theorem dX7_empties_0 : decode cX7_empties 0 = .ok (.aload_n 0, 1) := by decide +kernel
theorem dX7_empties_1 : decode cX7_empties 1 = .ok (.aload_n 1, 1) := by decide +kernel
theorem dX7_empties_2 : decode cX7_empties 2 = .ok (.invokespecial 45, 3) := by decide +kernel
theorem dX7_empties_5 : decode cX7_empties 5 = .ok (.iconst 0, 1) := by decide +kernel
theorem dX7_empties_6 : decode cX7_empties 6 = .ok (.istore_n 2, 1) := by decide +kernel
theorem dX7_empties_7 : decode cX7_empties 7 = .ok (.iload_n 2, 1) := by decide +kernel
theorem dX7_empties_8 : decode cX7_empties 8 = .ok (.bipush 8, 2) := by decide +kernel
theorem dX7_empties_10 : decode cX7_empties 10 = .ok (.if_icmp .ge 16, 3) := by decide +kernel
theorem dX7_empties_13 : decode cX7_empties 13 = .ok (.aload_n 0, 1) := by decide +kernel
theorem dX7_empties_14 : decode cX7_empties 14 = .ok (.getfield 9, 3) := by decide +kernel
theorem dX7_empties_17 : decode cX7_empties 17 = .ok (.iload_n 2, 1) := by decide +kernel
theorem dX7_empties_18 : decode cX7_empties 18 = .ok (.iconst 0, 1) := by decide +kernel
theorem dX7_empties_19 : decode cX7_empties 19 = .ok (.iastore, 1) := by decide +kernel
theorem dX7_empties_20 : decode cX7_empties 20 = .ok (.iinc 2 1, 3) := by decide +kernel
theorem dX7_empties_23 : decode cX7_empties 23 = .ok (.goto (-16), 3) := by decide +kernel
theorem dX7_empties_26 : decode cX7_empties 26 = .ok (.aload_n 0, 1) := by decide +kernel
theorem dX7_empties_27 : decode cX7_empties 27 = .ok (.aload_n 0, 1) := by decide +kernel
theorem dX7_empties_28 : decode cX7_empties 28 = .ok (.getfield 15, 3) := by decide +kernel
theorem dX7_empties_31 : decode cX7_empties 31 = .ok (.putfield 19, 3) := by decide +kernel
theorem dX7_empties_34 : decode cX7_empties 34 = .ok (.return_, 1) := by decide +kernel
abbrev rm_X7_empties : Room := k2_rm 1 22
section
variable {p : Program} {l : Launch} {e : Env} {s : State} {m : MethodId} {args : Array Value} {below : List Frame} {meth : Method} {c : Code} {D : gD} {A : Nat → Prop} {ad : Nat → Nat} {S : Nat → Nat × Nat} {σ : Mem}
set_option maxRecDepth 100000 in
set_option maxHeartbeats 4000000 in
theorem w_X7_empties_L7 (Z : Cz D (Ew D A) A cX7_empties 3 none RX7 p s m args meth c) {u0 : Nat} (hu0 : S u0 = (14, 0)) {r : Mem} {k26 : Mem → Option Mem}
    (hk26 : ∀ (σ : Mem)  (H : Heap) (locs : List Loc) (ls : Array Slot), St D A ad S σ s.heap H locs → lv_has ls 3 [(0, .ref (ad u0))] → k26 σ = some r → W p l e rm_X7_empties s m args below meth c H locs 0 0 (MQ below (QG D A ad S none r) args s 0 0 A) (F0 m 26 ls [])) :
    ∀ (n : Nat) (σ : Mem) (v2 : Int32) (H : Heap) (locs : List Loc) (ls : Array Slot), St D A ad S σ s.heap H locs → lv_has ls 3 [(0, .ref (ad u0)), (2, .int v2)] → f_X7_empties_L7 k26 u0 n σ v2 = some r → W p l e rm_X7_empties s m args below meth c H locs 0 0 (MQ below (QG D A ad S none r) args s 0 0 A) (F0 m 7 ls []) := by
  have hx := Z.1
  have hb := Z.2.1
  have hown := Z.2.2.2.2.2.1
  have hts := Z.2.2.2.2.2.2.1
  intro n
  induction n with
  | zero => intro σ v2 H locs ls hS hl h; cases h
  | succ n ih =>
    intro σ v2 H locs ls hS hl h
    unfold f_X7_empties_L7 at h
    refine lv_iload_n hx hb dX7_empties_7 rfl (lv_at hl 1 rfl) ?_
    refine lv_bipush (v := (8 : Int32)) hx hb dX7_empties_8 (by decide) ?_
    refine lv_icmp_ge (tgt := 26) hx hb dX7_empties_10 (by decide) (fun c2 => ?_) (fun c2 => ?_)
    · have h := if_t h c2
      exact hk26 _ _ _ _ hS (lv_sub hl [0] rfl) h
    · have h := if_f h c2
      refine lv_aload_n hx hb dX7_empties_13 rfl (lv_at hl 0 rfl) ?_
      refine h_getC (n := 2) (j := (u0 + 2)) (sh := (1, 8)) Z hS cls_4 hu0 (by decide) rfl rfl rfl fl_X7_9_4 dX7_empties_14 (fun hc3 => ?_)
      refine lv_iload_n hx hb dX7_empties_17 rfl (lv_at hl 1 rfl) ?_
      refine lv_iconst (v := (0 : Int32)) hx hb dX7_empties_18 (by decide) ?_
      refine h_iast Z hS hc3 dX7_empties_19 h (fun σ4 H locs hS h => ?_)
      refine lv_iinc (v := (v2 + (1 : Int32))) (lv' := [(2, .int (v2 + (1 : Int32))), (0, .ref (ad u0))]) hx hb dX7_empties_20 hl (k := 1) rfl rfl (by decide) rfl (fun ls hl => ?_)
      refine lv_goto (tgt := 7) hx hb dX7_empties_23 (by decide) ?_
      exact ih _ _ _ _ _ hS (lv_sub hl [1, 0] rfl) h
set_option maxRecDepth 100000 in
set_option maxHeartbeats 4000000 in
theorem w_X7_empties {i0 : Nat} {a1 : Nat} (hi0 : S i0 = (14, 0)) (ha1 : S a1 = (1, 8)) {r : Mem} (h : f_X7_empties σ i0 a1 = some r) : Met l yX7_empties (ws_ yX7_empties cX7_empties 3 none) rm_X7_empties (va_Pc [.ref (ad i0), .ref (ad a1)] (PreG D (Ew D A) A ad S σ)) (QG D A ad S none r) 0 0 A := by
  refine y_met (by decide) (Nat.le_of_ble_eq_true rfl) (fun p e s m below meth c ls Z hS hl => ?_)
  have hx := Z.1
  have hb := Z.2.1
  have hown := Z.2.2.2.2.2.1
  have hts := Z.2.2.2.2.2.2.1
  unfold f_X7_empties at h
  refine lv_aload_n hx hb dX7_empties_0 rfl (lv_at hl 0 rfl) ?_
  refine lv_aload_n hx hb dX7_empties_1 rfl (lv_at hl 1 rfl) ?_
  refine h_cm hS h (fun z hz => h_rP (rest := []) Z hS hi0 rfl vp_X7_45 (w_X4_empties_4 hi0 ha1 hz) rfl rfl ⟨by decide, by decide⟩ rfl hl.1 rfl (Nat.le_of_ble_eq_true rfl) (Nat.zero_le _) (Nat.zero_le _) dX7_empties_2) (fun σ1 H locs hS h => ?_)
  refine lv_iconst (v := (0 : Int32)) hx hb dX7_empties_5 (by decide) ?_
  refine lv_istore_n (lv' := [(2, .int (0 : Int32)), (0, .ref (ad i0)), (1, .ref (ad a1))]) hx hb dX7_empties_6 rfl hl (by decide) rfl (fun ls hl => ?_)
  refine w_X7_empties_L7 Z hi0 (fun σ5 H locs ls hS hl h => ?_) FU _ _ _ _ _ hS (lv_sub hl [1, 0] rfl) h
  refine lv_aload_n hx hb dX7_empties_26 rfl (lv_at hl 0 rfl) ?_
  refine lv_aload_n hx hb dX7_empties_27 rfl (lv_at hl 0 rfl) ?_
  refine h_getI Z hS cls_4 hi0 (by decide) rfl fl_X7_15_4 dX7_empties_28 h (fun x6 h => ?_)
  refine h_putI Z hS cls_4 hi0 (by decide) rfl rfl rfl fl_X7_19_4 dX7_empties_31 h (fun σ7 H locs hS h => ?_)
  exact h_vret Z hS dX7_empties_34 h
end
theorem dX3_change_0 : decode cX3_change 0 = .ok (.aload_n 0, 1) := by decide +kernel
theorem dX3_change_1 : decode cX3_change 1 = .ok (.getfield 20, 3) := by decide +kernel
theorem dX3_change_4 : decode cX3_change 4 = .ok (.aload_n 1, 1) := by decide +kernel
theorem dX3_change_5 : decode cX3_change 5 = .ok (.invokevirtual 69, 3) := by decide +kernel
theorem dX3_change_8 : decode cX3_change 8 = .ok (.iconst 0, 1) := by decide +kernel
theorem dX3_change_9 : decode cX3_change 9 = .ok (.istore_n 2, 1) := by decide +kernel
theorem dX3_change_10 : decode cX3_change 10 = .ok (.iload_n 2, 1) := by decide +kernel
theorem dX3_change_11 : decode cX3_change 11 = .ok (.aload_n 0, 1) := by decide +kernel
theorem dX3_change_12 : decode cX3_change 12 = .ok (.getfield 38, 3) := by decide +kernel
theorem dX3_change_15 : decode cX3_change 15 = .ok (.if_icmp .ge 19, 3) := by decide +kernel
theorem dX3_change_18 : decode cX3_change 18 = .ok (.aload_n 0, 1) := by decide +kernel
theorem dX3_change_19 : decode cX3_change 19 = .ok (.getfield 11, 3) := by decide +kernel
theorem dX3_change_22 : decode cX3_change 22 = .ok (.iload_n 2, 1) := by decide +kernel
theorem dX3_change_23 : decode cX3_change 23 = .ok (.aaload, 1) := by decide +kernel
theorem dX3_change_24 : decode cX3_change 24 = .ok (.aload_n 1, 1) := by decide +kernel
theorem dX3_change_25 : decode cX3_change 25 = .ok (.invokevirtual 73, 3) := by decide +kernel
theorem dX3_change_28 : decode cX3_change 28 = .ok (.iinc 2 1, 3) := by decide +kernel
theorem dX3_change_31 : decode cX3_change 31 = .ok (.goto (-21), 3) := by decide +kernel
theorem dX3_change_34 : decode cX3_change 34 = .ok (.aload_n 0, 1) := by decide +kernel
theorem dX3_change_35 : decode cX3_change 35 = .ok (.iconst 0, 1) := by decide +kernel
theorem dX3_change_36 : decode cX3_change 36 = .ok (.putfield 74, 3) := by decide +kernel
theorem dX3_change_39 : decode cX3_change 39 = .ok (.aload_n 0, 1) := by decide +kernel
theorem dX3_change_40 : decode cX3_change 40 = .ok (.iconst 0, 1) := by decide +kernel
theorem dX3_change_41 : decode cX3_change 41 = .ok (.putfield 77, 3) := by decide +kernel
theorem dX3_change_44 : decode cX3_change 44 = .ok (.return_, 1) := by decide +kernel
abbrev rm_X3_change : Room := k2_rm 2 44
section
variable {p : Program} {l : Launch} {e : Env} {s : State} {m : MethodId} {args : Array Value} {below : List Frame} {meth : Method} {c : Code} {D : gD} {A : Nat → Prop} {ad : Nat → Nat} {S : Nat → Nat × Nat} {σ : Mem}
set_option maxRecDepth 100000 in
set_option maxHeartbeats 4000000 in
theorem w_X3_change_L10 (Z : Cz D (Ew D A) A cX3_change 3 none RX3 p s m args meth c) {u0 : Nat} {u1 : Nat} (hu0 : S u0 = (12, 0)) (hu1 : S u1 = (1, 8)) {r : Mem} {k34 : Mem → Option Mem}
    (hk34 : ∀ (σ : Mem)  (H : Heap) (locs : List Loc) (ls : Array Slot), St D A ad S σ s.heap H locs → lv_has ls 3 [(0, .ref (ad u0))] → k34 σ = some r → W p l e rm_X3_change s m args below meth c H locs 0 0 (MQ below (QG D A ad S none r) args s 0 0 A) (F0 m 34 ls [])) :
    ∀ (n : Nat) (σ : Mem) (v2 : Int32) (H : Heap) (locs : List Loc) (ls : Array Slot), St D A ad S σ s.heap H locs → lv_has ls 3 [(0, .ref (ad u0)), (1, .ref (ad u1)), (2, .int v2)] → f_X3_change_L10 k34 u0 u1 n σ v2 = some r → W p l e rm_X3_change s m args below meth c H locs 0 0 (MQ below (QG D A ad S none r) args s 0 0 A) (F0 m 10 ls []) := by
  have hx := Z.1
  have hb := Z.2.1
  have hown := Z.2.2.2.2.2.1
  have hts := Z.2.2.2.2.2.2.1
  intro n
  induction n with
  | zero => intro σ v2 H locs ls hS hl h; cases h
  | succ n ih =>
    intro σ v2 H locs ls hS hl h
    unfold f_X3_change_L10 at h
    refine lv_iload_n hx hb dX3_change_10 rfl (lv_at hl 2 rfl) ?_
    refine lv_aload_n hx hb dX3_change_11 rfl (lv_at hl 0 rfl) ?_
    refine h_getI Z hS cls_2 hu0 (by decide) rfl fl_X3_38_2 dX3_change_12 h (fun x3 h => ?_)
    refine lv_icmp_ge (tgt := 34) hx hb dX3_change_15 (by decide) (fun c4 => ?_) (fun c4 => ?_)
    · have h := if_t h c4
      exact hk34 _ _ _ _ hS (lv_sub hl [0] rfl) h
    · have h := if_f h c4
      refine lv_aload_n hx hb dX3_change_18 rfl (lv_at hl 0 rfl) ?_
      refine h_getC (n := 1) (j := (u0 + 1)) (sh := (6, 10)) Z hS cls_2 hu0 (by decide) rfl rfl rfl fl_X3_11_2 dX3_change_19 (fun hc5 => ?_)
      refine lv_iload_n hx hb dX3_change_22 rfl (lv_at hl 2 rfl) ?_
      refine h_aldN (sh := (14, 0)) Z hS hc5 (by decide) (by decide) rfl dX3_change_23 h (fun j6 hj6 h => ?_)
      refine lv_aload_n hx hb dX3_change_24 rfl (lv_at hl 1 rfl) ?_
      refine h_cm hS h (fun z hz => h_rV (rest := []) Z hS hj6 rfl v_X3_73 (w_X7_empties hj6 hu1 hz) rfl rfl ⟨by decide, by decide⟩ rfl hl.1 rfl (Nat.le_of_ble_eq_true rfl) (Nat.zero_le _) (Nat.zero_le _) dX3_change_25) (fun σ7 H locs hS h => ?_)
      refine lv_iinc (v := (v2 + (1 : Int32))) (lv' := [(2, .int (v2 + (1 : Int32))), (0, .ref (ad u0)), (1, .ref (ad u1))]) hx hb dX3_change_28 hl (k := 2) rfl rfl (by decide) rfl (fun ls hl => ?_)
      refine lv_goto (tgt := 10) hx hb dX3_change_31 (by decide) ?_
      exact ih _ _ _ _ _ hS (lv_sub hl [1, 2, 0] rfl) h
set_option maxRecDepth 100000 in
set_option maxHeartbeats 4000000 in
theorem w_X3_change {i0 : Nat} {a1 : Nat} (hi0 : S i0 = (12, 0)) (ha1 : S a1 = (1, 8)) {r : Mem} (h : f_X3_change σ i0 a1 = some r) : Met l yX3_change (ws_ yX3_change cX3_change 3 none) rm_X3_change (va_Pc [.ref (ad i0), .ref (ad a1)] (PreG D (Ew D A) A ad S σ)) (QG D A ad S none r) 0 0 A := by
  refine y_met (by decide) (Nat.le_of_ble_eq_true rfl) (fun p e s m below meth c ls Z hS hl => ?_)
  have hx := Z.1
  have hb := Z.2.1
  have hown := Z.2.2.2.2.2.1
  have hts := Z.2.2.2.2.2.2.1
  unfold f_X3_change at h
  refine lv_aload_n hx hb dX3_change_0 rfl (lv_at hl 0 rfl) ?_
  refine h_getC (n := 2) (j := (i0 + 2)) (sh := (13, 0)) Z hS cls_2 hi0 (by decide) rfl rfl rfl fl_X3_20_2 dX3_change_1 (fun hc1 => ?_)
  refine lv_aload_n hx hb dX3_change_4 rfl (lv_at hl 1 rfl) ?_
  refine h_cm hS h (fun z hz => h_rU (rest := []) Z hS hc1 rfl vu_X3_69 (w_X4_empties_3 hc1 ha1 hz) rfl rfl ⟨by decide, by decide⟩ rfl hl.1 rfl (Nat.le_of_ble_eq_true rfl) (Nat.zero_le _) (Nat.zero_le _) dX3_change_5) (fun σ2 H locs hS h => ?_)
  refine lv_iconst (v := (0 : Int32)) hx hb dX3_change_8 (by decide) ?_
  refine lv_istore_n (lv' := [(2, .int (0 : Int32)), (0, .ref (ad i0)), (1, .ref (ad a1))]) hx hb dX3_change_9 rfl hl (by decide) rfl (fun ls hl => ?_)
  refine w_X3_change_L10 Z hi0 ha1 (fun σ8 H locs ls hS hl h => ?_) FU _ _ _ _ _ hS (lv_sub hl [1, 2, 0] rfl) h
  refine lv_aload_n hx hb dX3_change_34 rfl (lv_at hl 0 rfl) ?_
  refine lv_iconst (v := (0 : Int32)) hx hb dX3_change_35 (by decide) ?_
  refine h_putI Z hS cls_2 hi0 (by decide) rfl rfl rfl fl_X3_74_2 dX3_change_36 h (fun σ9 H locs hS h => ?_)
  refine lv_aload_n hx hb dX3_change_39 rfl (lv_at hl 0 rfl) ?_
  refine lv_iconst (v := (0 : Int32)) hx hb dX3_change_40 (by decide) ?_
  refine h_putI Z hS cls_2 hi0 (by decide) rfl rfl rfl fl_X3_77_2 dX3_change_41 h (fun σ10 H locs hS h => ?_)
  exact h_vret Z hS dX3_change_44 h
end
theorem dX1_decides_0 : decode cX1_decides 0 = .ok (.aload_n 0, 1) := by decide +kernel
theorem dX1_decides_1 : decode cX1_decides 1 = .ok (.getfield 24, 3) := by decide +kernel
theorem dX1_decides_4 : decode cX1_decides 4 = .ok (.iload_n 1, 1) := by decide +kernel
theorem dX1_decides_5 : decode cX1_decides 5 = .ok (.aaload, 1) := by decide +kernel
theorem dX1_decides_6 : decode cX1_decides 6 = .ok (.astore_n 2, 1) := by decide +kernel
theorem dX1_decides_7 : decode cX1_decides 7 = .ok (.aload_n 0, 1) := by decide +kernel
theorem dX1_decides_8 : decode cX1_decides 8 = .ok (.aload_n 2, 1) := by decide +kernel
theorem dX1_decides_9 : decode cX1_decides 9 = .ok (.getfield 219, 3) := by decide +kernel
theorem dX1_decides_12 : decode cX1_decides 12 = .ok (.aload_n 2, 1) := by decide +kernel
theorem dX1_decides_13 : decode cX1_decides 13 = .ok (.getfield 196, 3) := by decide +kernel
theorem dX1_decides_16 : decode cX1_decides 16 = .ok (.aload_n 2, 1) := by decide +kernel
theorem dX1_decides_17 : decode cX1_decides 17 = .ok (.getfield 222, 3) := by decide +kernel
theorem dX1_decides_20 : decode cX1_decides 20 = .ok (.iload_n 1, 1) := by decide +kernel
theorem dX1_decides_21 : decode cX1_decides 21 = .ok (.aload_n 2, 1) := by decide +kernel
theorem dX1_decides_22 : decode cX1_decides 22 = .ok (.getfield 199, 3) := by decide +kernel
theorem dX1_decides_25 : decode cX1_decides 25 = .ok (.aload_n 2, 1) := by decide +kernel
theorem dX1_decides_26 : decode cX1_decides 26 = .ok (.getfield 202, 3) := by decide +kernel
theorem dX1_decides_29 : decode cX1_decides 29 = .ok (.invokevirtual 206, 3) := by decide +kernel
theorem dX1_decides_32 : decode cX1_decides 32 = .ok (.invokevirtual 286, 3) := by decide +kernel
theorem dX1_decides_35 : decode cX1_decides 35 = .ok (.aload_n 0, 1) := by decide +kernel
theorem dX1_decides_36 : decode cX1_decides 36 = .ok (.getfield 69, 3) := by decide +kernel
theorem dX1_decides_39 : decode cX1_decides 39 = .ok (.iload_n 1, 1) := by decide +kernel
theorem dX1_decides_40 : decode cX1_decides 40 = .ok (.iconst 0, 1) := by decide +kernel
theorem dX1_decides_41 : decode cX1_decides 41 = .ok (.sipush 1000, 3) := by decide +kernel
theorem dX1_decides_44 : decode cX1_decides 44 = .ok (.aload_n 2, 1) := by decide +kernel
theorem dX1_decides_45 : decode cX1_decides 45 = .ok (.getfield 272, 3) := by decide +kernel
theorem dX1_decides_48 : decode cX1_decides 48 = .ok (.bipush 117, 2) := by decide +kernel
theorem dX1_decides_50 : decode cX1_decides 50 = .ok (.aload_n 0, 1) := by decide +kernel
theorem dX1_decides_51 : decode cX1_decides 51 = .ok (.getfield 38, 3) := by decide +kernel
theorem dX1_decides_54 : decode cX1_decides 54 = .ok (.invokevirtual 290, 3) := by decide +kernel
theorem dX1_decides_57 : decode cX1_decides 57 = .ok (.invokestatic 318, 3) := by decide +kernel
theorem dX1_decides_60 : decode cX1_decides 60 = .ok (.invokestatic 321, 3) := by decide +kernel
theorem dX1_decides_63 : decode cX1_decides 63 = .ok (.iastore, 1) := by decide +kernel
theorem dX1_decides_64 : decode cX1_decides 64 = .ok (.aload_n 2, 1) := by decide +kernel
theorem dX1_decides_65 : decode cX1_decides 65 = .ok (.getfield 272, 3) := by decide +kernel
theorem dX1_decides_68 : decode cX1_decides 68 = .ok (.bipush 99, 2) := by decide +kernel
theorem dX1_decides_70 : decode cX1_decides 70 = .ok (.aload_n 0, 1) := by decide +kernel
theorem dX1_decides_71 : decode cX1_decides 71 = .ok (.getfield 38, 3) := by decide +kernel
theorem dX1_decides_74 : decode cX1_decides 74 = .ok (.invokevirtual 290, 3) := by decide +kernel
theorem dX1_decides_77 : decode cX1_decides 77 = .ok (.ifCond .eq 14, 3) := by decide +kernel
theorem dX1_decides_80 : decode cX1_decides 80 = .ok (.aload_n 2, 1) := by decide +kernel
theorem dX1_decides_81 : decode cX1_decides 81 = .ok (.aload_n 0, 1) := by decide +kernel
theorem dX1_decides_82 : decode cX1_decides 82 = .ok (.getfield 54, 3) := by decide +kernel
theorem dX1_decides_85 : decode cX1_decides 85 = .ok (.invokevirtual 323, 3) := by decide +kernel
theorem dX1_decides_88 : decode cX1_decides 88 = .ok (.goto 65, 3) := by decide +kernel
theorem dX1_decides_91 : decode cX1_decides 91 = .ok (.aload_n 2, 1) := by decide +kernel
theorem dX1_decides_92 : decode cX1_decides 92 = .ok (.getfield 272, 3) := by decide +kernel
theorem dX1_decides_95 : decode cX1_decides 95 = .ok (.bipush 119, 2) := by decide +kernel
theorem dX1_decides_97 : decode cX1_decides 97 = .ok (.aload_n 0, 1) := by decide +kernel
theorem dX1_decides_98 : decode cX1_decides 98 = .ok (.getfield 38, 3) := by decide +kernel
theorem dX1_decides_101 : decode cX1_decides 101 = .ok (.invokevirtual 290, 3) := by decide +kernel
theorem dX1_decides_104 : decode cX1_decides 104 = .ok (.ifCond .eq 28, 3) := by decide +kernel
theorem dX1_decides_107 : decode cX1_decides 107 = .ok (.aload_n 2, 1) := by decide +kernel
theorem dX1_decides_108 : decode cX1_decides 108 = .ok (.aload_n 2, 1) := by decide +kernel
theorem dX1_decides_109 : decode cX1_decides 109 = .ok (.getfield 199, 3) := by decide +kernel
theorem dX1_decides_112 : decode cX1_decides 112 = .ok (.aload_n 2, 1) := by decide +kernel
theorem dX1_decides_113 : decode cX1_decides 113 = .ok (.getfield 164, 3) := by decide +kernel
theorem dX1_decides_116 : decode cX1_decides 116 = .ok (.iconst 2, 1) := by decide +kernel
theorem dX1_decides_117 : decode cX1_decides 117 = .ok (.iaload, 1) := by decide +kernel
theorem dX1_decides_118 : decode cX1_decides 118 = .ok (.if_icmp .lt 7, 3) := by decide +kernel
theorem dX1_decides_121 : decode cX1_decides 121 = .ok (.iconst 5, 1) := by decide +kernel
theorem dX1_decides_122 : decode cX1_decides 122 = .ok (.goto 4, 3) := by decide +kernel
theorem dX1_decides_125 : decode cX1_decides 125 = .ok (.iconst 2, 1) := by decide +kernel
theorem dX1_decides_126 : decode cX1_decides 126 = .ok (.putfield 193, 3) := by decide +kernel
theorem dX1_decides_129 : decode cX1_decides 129 = .ok (.goto 24, 3) := by decide +kernel
theorem dX1_decides_132 : decode cX1_decides 132 = .ok (.aload_n 2, 1) := by decide +kernel
theorem dX1_decides_133 : decode cX1_decides 133 = .ok (.getfield 272, 3) := by decide +kernel
theorem dX1_decides_136 : decode cX1_decides 136 = .ok (.bipush 114, 2) := by decide +kernel
theorem dX1_decides_138 : decode cX1_decides 138 = .ok (.aload_n 0, 1) := by decide +kernel
theorem dX1_decides_139 : decode cX1_decides 139 = .ok (.getfield 38, 3) := by decide +kernel
theorem dX1_decides_142 : decode cX1_decides 142 = .ok (.invokevirtual 290, 3) := by decide +kernel
theorem dX1_decides_145 : decode cX1_decides 145 = .ok (.ifCond .eq 8, 3) := by decide +kernel
theorem dX1_decides_148 : decode cX1_decides 148 = .ok (.aload_n 2, 1) := by decide +kernel
theorem dX1_decides_149 : decode cX1_decides 149 = .ok (.iconst 3, 1) := by decide +kernel
theorem dX1_decides_150 : decode cX1_decides 150 = .ok (.putfield 193, 3) := by decide +kernel
theorem dX1_decides_153 : decode cX1_decides 153 = .ok (.return_, 1) := by decide +kernel
abbrev rm_X1_decides : Room := k2_rm 99 2109
section
variable {p : Program} {l : Launch} {e : Env} {s : State} {m : MethodId} {args : Array Value} {below : List Frame} {meth : Method} {c : Code} {D : gD} {A : Nat → Prop} {ad : Nat → Nat} {S : Nat → Nat × Nat} {σ : Mem}
set_option maxRecDepth 100000 in
set_option maxHeartbeats 4000000 in
theorem w_X1_decides {a1 : Int32} (hi0 : S 0 = (10, 0)) {r : Mem} (h : f_X1_decides σ S a1 = some r) : Met l yX1_decides (ws_ yX1_decides cX1_decides 3 none) rm_X1_decides (va_Pc [.ref (ad 0), .int a1] (PreG D (Ew D A) A ad S σ)) (QG D A ad S none r) 0 0 A := by
  refine y_met (by decide) (Nat.le_of_ble_eq_true rfl) (fun p e s m below meth c ls Z hS hl => ?_)
  have hx := Z.1
  have hb := Z.2.1
  have hown := Z.2.2.2.2.2.1
  have hts := Z.2.2.2.2.2.2.1
  unfold f_X1_decides at h
  refine lv_aload_n hx hb dX1_decides_0 rfl (lv_at hl 0 rfl) ?_
  refine h_getC (n := 3) (j := 3) (sh := (5, 8)) Z hS cls_0 hi0 (by decide) rfl rfl rfl fl_X1_24_0 dX1_decides_1 (fun hc1 => ?_)
  refine lv_iload_n hx hb dX1_decides_4 rfl (lv_at hl 1 rfl) ?_
  refine h_aldN (sh := (12, 0)) Z hS hc1 (by decide) (by decide) rfl dX1_decides_5 h (fun j2 hj2 h => ?_)
  refine lv_astore_n (lv' := [(2, .ref (ad j2)), (0, .ref (ad 0)), (1, .int a1)]) hx hb dX1_decides_6 rfl hl (by decide) rfl (fun ls hl => ?_)
  refine lv_aload_n hx hb dX1_decides_7 rfl (lv_at hl 1 rfl) ?_
  refine lv_aload_n hx hb dX1_decides_8 rfl (lv_at hl 0 rfl) ?_
  refine h_getI Z hS cls_2 hj2 (by decide) rfl fl_X1_219_2 dX1_decides_9 h (fun x3 h => ?_)
  refine lv_aload_n hx hb dX1_decides_12 rfl (lv_at hl 0 rfl) ?_
  refine h_getI Z hS cls_2 hj2 (by decide) rfl fl_X1_196_2 dX1_decides_13 h (fun x4 h => ?_)
  refine lv_aload_n hx hb dX1_decides_16 rfl (lv_at hl 0 rfl) ?_
  refine h_getI Z hS cls_2 hj2 (by decide) rfl fl_X1_222_2 dX1_decides_17 h (fun x5 h => ?_)
  refine lv_iload_n hx hb dX1_decides_20 rfl (lv_at hl 2 rfl) ?_
  refine lv_aload_n hx hb dX1_decides_21 rfl (lv_at hl 0 rfl) ?_
  refine h_getI Z hS cls_2 hj2 (by decide) rfl fl_X1_199_2 dX1_decides_22 h (fun x6 h => ?_)
  refine lv_aload_n hx hb dX1_decides_25 rfl (lv_at hl 0 rfl) ?_
  refine h_getC (n := 2) (j := (j2 + 2)) (sh := (13, 0)) Z hS cls_2 hj2 (by decide) rfl rfl rfl fl_X1_202_2 dX1_decides_26 (fun hc7 => ?_)
  refine h_ci hS h (fun z hz => h_rD (rest := [.int x6, .int a1, .int x5, .int x4, .int x3, .ref (ad 0)]) Z hS hc7 rfl vd_X1_206 (w_X19_all_3 hc7 hz) rfl rfl ⟨by decide, by decide⟩ rfl hl.1 rfl (Nat.le_of_ble_eq_true rfl) (Nat.zero_le _) (Nat.zero_le _) dX1_decides_29) (fun x8 H locs hS h => ?_)
  refine h_cm hS h (fun z hz => h_rV (rest := []) Z hS hi0 rfl v_X1_286 (w_X1_let hi0 hz) rfl rfl ⟨by decide, by decide⟩ rfl hl.1 rfl (Nat.le_of_ble_eq_true rfl) (Nat.zero_le _) (Nat.zero_le _) dX1_decides_32) (fun σ9 H locs hS h => ?_)
  refine lv_aload_n hx hb dX1_decides_35 rfl (lv_at hl 1 rfl) ?_
  refine h_getC (n := 19) (j := 19) (sh := (1, 8)) Z hS cls_0 hi0 (by decide) rfl rfl rfl fl_X1_69_0 dX1_decides_36 (fun hc10 => ?_)
  refine lv_iload_n hx hb dX1_decides_39 rfl (lv_at hl 2 rfl) ?_
  refine lv_iconst (v := (0 : Int32)) hx hb dX1_decides_40 (by decide) ?_
  refine lv_sipush (v := (1000 : Int32)) hx hb dX1_decides_41 (by decide) ?_
  refine lv_aload_n hx hb dX1_decides_44 rfl (lv_at hl 0 rfl) ?_
  refine h_getN (sh := (23, 0)) Z hS cls_2 hj2 (by decide) rfl rfl fl_X1_272_2 dX1_decides_45 h (fun j11 hj11 h => ?_)
  refine lv_bipush (v := (117 : Int32)) hx hb dX1_decides_48 (by decide) ?_
  refine lv_aload_n hx hb dX1_decides_50 rfl (lv_at hl 1 rfl) ?_
  refine h_getC (n := 7) (j := 7) (sh := (1, 6)) Z hS cls_0 hi0 (by decide) rfl rfl rfl fl_X1_38_0 dX1_decides_51 (fun hc12 => ?_)
  refine h_ci hS h (fun z hz => h_rV (rest := [.int (1000 : Int32), .int (0 : Int32), .int a1, .ref (ad 19)]) Z hS hj11 rfl v_X1_290 (w_X18_worth hj11 hc12 hz) rfl rfl ⟨by decide, by decide⟩ rfl hl.1 rfl (Nat.le_of_ble_eq_true rfl) (Nat.zero_le _) (Nat.zero_le _) dX1_decides_54) (fun x13 H locs hS h => ?_)
  refine y_imin hx hb (hl.1 ▸ Z.2.2.2.2.1) Z.2.2.2.2.2 q969 (by decide) (Nat.le_of_ble_eq_true rfl) (Nat.zero_le _) (Nat.zero_le _) dX1_decides_57 ?_
  refine y_imax hx hb (hl.1 ▸ Z.2.2.2.2.1) Z.2.2.2.2.2 q970 (by decide) (Nat.le_of_ble_eq_true rfl) (Nat.zero_le _) (Nat.zero_le _) dX1_decides_60 ?_
  refine h_iast Z hS hc10 dX1_decides_63 h (fun σ14 H locs hS h => ?_)
  refine lv_aload_n hx hb dX1_decides_64 rfl (lv_at hl 0 rfl) ?_
  refine h_getN (sh := (23, 0)) Z hS cls_2 hj2 (by decide) rfl rfl fl_X1_272_2 dX1_decides_65 h (fun j15 hj15 h => ?_)
  refine lv_bipush (v := (99 : Int32)) hx hb dX1_decides_68 (by decide) ?_
  refine lv_aload_n hx hb dX1_decides_70 rfl (lv_at hl 1 rfl) ?_
  refine h_getC (n := 7) (j := 7) (sh := (1, 6)) Z hS cls_0 hi0 (by decide) rfl rfl rfl fl_X1_38_0 dX1_decides_71 (fun hc16 => ?_)
  refine h_ci hS h (fun z hz => h_rV (rest := []) Z hS hj15 rfl v_X1_290 (w_X18_worth hj15 hc16 hz) rfl rfl ⟨by decide, by decide⟩ rfl hl.1 rfl (Nat.le_of_ble_eq_true rfl) (Nat.zero_le _) (Nat.zero_le _) dX1_decides_74) (fun x17 H locs hS h => ?_)
  refine lv_if_eq (tgt := 91) hx hb dX1_decides_77 (by decide) (fun c18 => ?_) (fun c18 => ?_)
  · have h := if_t h c18
    refine lv_aload_n hx hb dX1_decides_91 rfl (lv_at hl 0 rfl) ?_
    refine h_getN (sh := (23, 0)) Z hS cls_2 hj2 (by decide) rfl rfl fl_X1_272_2 dX1_decides_92 h (fun j19 hj19 h => ?_)
    refine lv_bipush (v := (119 : Int32)) hx hb dX1_decides_95 (by decide) ?_
    refine lv_aload_n hx hb dX1_decides_97 rfl (lv_at hl 1 rfl) ?_
    refine h_getC (n := 7) (j := 7) (sh := (1, 6)) Z hS cls_0 hi0 (by decide) rfl rfl rfl fl_X1_38_0 dX1_decides_98 (fun hc20 => ?_)
    refine h_ci hS h (fun z hz => h_rV (rest := []) Z hS hj19 rfl v_X1_290 (w_X18_worth hj19 hc20 hz) rfl rfl ⟨by decide, by decide⟩ rfl hl.1 rfl (Nat.le_of_ble_eq_true rfl) (Nat.zero_le _) (Nat.zero_le _) dX1_decides_101) (fun x21 H locs hS h => ?_)
    refine lv_if_eq (tgt := 132) hx hb dX1_decides_104 (by decide) (fun c22 => ?_) (fun c22 => ?_)
    · have h := if_t h c22
      refine lv_aload_n hx hb dX1_decides_132 rfl (lv_at hl 0 rfl) ?_
      refine h_getN (sh := (23, 0)) Z hS cls_2 hj2 (by decide) rfl rfl fl_X1_272_2 dX1_decides_133 h (fun j23 hj23 h => ?_)
      refine lv_bipush (v := (114 : Int32)) hx hb dX1_decides_136 (by decide) ?_
      refine lv_aload_n hx hb dX1_decides_138 rfl (lv_at hl 1 rfl) ?_
      refine h_getC (n := 7) (j := 7) (sh := (1, 6)) Z hS cls_0 hi0 (by decide) rfl rfl rfl fl_X1_38_0 dX1_decides_139 (fun hc24 => ?_)
      refine h_ci hS h (fun z hz => h_rV (rest := []) Z hS hj23 rfl v_X1_290 (w_X18_worth hj23 hc24 hz) rfl rfl ⟨by decide, by decide⟩ rfl hl.1 rfl (Nat.le_of_ble_eq_true rfl) (Nat.zero_le _) (Nat.zero_le _) dX1_decides_142) (fun x25 H locs hS h => ?_)
      refine lv_if_eq (tgt := 153) hx hb dX1_decides_145 (by decide) (fun c26 => ?_) (fun c26 => ?_)
      · have h := if_t h c26
        exact h_vret Z hS dX1_decides_153 h
      · have h := if_f h c26
        refine lv_aload_n hx hb dX1_decides_148 rfl (lv_at hl 0 rfl) ?_
        refine lv_iconst (v := (3 : Int32)) hx hb dX1_decides_149 (by decide) ?_
        refine h_putI Z hS cls_2 hj2 (by decide) rfl rfl rfl fl_X1_193_2 dX1_decides_150 h (fun σ27 H locs hS h => ?_)
        exact h_vret Z hS dX1_decides_153 h
    · have h := if_f h c22
      refine lv_aload_n hx hb dX1_decides_107 rfl (lv_at hl 0 rfl) ?_
      refine lv_aload_n hx hb dX1_decides_108 rfl (lv_at hl 0 rfl) ?_
      refine h_getI Z hS cls_2 hj2 (by decide) rfl fl_X1_199_2 dX1_decides_109 h (fun x28 h => ?_)
      refine lv_aload_n hx hb dX1_decides_112 rfl (lv_at hl 0 rfl) ?_
      refine h_getC (n := 4) (j := (j2 + 4)) (sh := (1, 3)) Z hS cls_2 hj2 (by decide) rfl rfl rfl fl_X1_164_2 dX1_decides_113 (fun hc29 => ?_)
      refine lv_iconst (v := (2 : Int32)) hx hb dX1_decides_116 (by decide) ?_
      refine h_iald Z hS hc29 dX1_decides_117 h (fun x30 h => ?_)
      refine lv_icmp_lt (tgt := 125) hx hb dX1_decides_118 (by decide) (fun c31 => ?_) (fun c31 => ?_)
      · have h := if_t h c31
        refine lv_iconst (v := (2 : Int32)) hx hb dX1_decides_125 (by decide) ?_
        refine h_putI Z hS cls_2 hj2 (by decide) rfl rfl rfl fl_X1_193_2 dX1_decides_126 h (fun σ32 H locs hS h => ?_)
        refine lv_goto (tgt := 153) hx hb dX1_decides_129 (by decide) ?_
        exact h_vret Z hS dX1_decides_153 h
      · have h := if_f h c31
        refine lv_iconst (v := (5 : Int32)) hx hb dX1_decides_121 (by decide) ?_
        refine lv_goto (tgt := 126) hx hb dX1_decides_122 (by decide) ?_
        refine h_putI Z hS cls_2 hj2 (by decide) rfl rfl rfl fl_X1_193_2 dX1_decides_126 h (fun σ33 H locs hS h => ?_)
        refine lv_goto (tgt := 153) hx hb dX1_decides_129 (by decide) ?_
        exact h_vret Z hS dX1_decides_153 h
  · have h := if_f h c18
    refine lv_aload_n hx hb dX1_decides_80 rfl (lv_at hl 0 rfl) ?_
    refine lv_aload_n hx hb dX1_decides_81 rfl (lv_at hl 1 rfl) ?_
    refine h_getC (n := 14) (j := 14) (sh := (1, 8)) Z hS cls_0 hi0 (by decide) rfl rfl rfl fl_X1_54_0 dX1_decides_82 (fun hc34 => ?_)
    refine h_cm hS h (fun z hz => h_rV (rest := []) Z hS hj2 rfl v_X1_323 (w_X3_change hj2 hc34 hz) rfl rfl ⟨by decide, by decide⟩ rfl hl.1 rfl (Nat.le_of_ble_eq_true rfl) (Nat.zero_le _) (Nat.zero_le _) dX1_decides_85) (fun σ35 H locs hS h => ?_)
    refine lv_goto (tgt := 153) hx hb dX1_decides_88 (by decide) ?_
    exact h_vret Z hS dX1_decides_153 h
end
theorem dX1_begins_0 : decode cX1_begins 0 = .ok (.aload_n 0, 1) := by decide +kernel
theorem dX1_begins_1 : decode cX1_begins 1 = .ok (.getfield 24, 3) := by decide +kernel
theorem dX1_begins_4 : decode cX1_begins 4 = .ok (.iload_n 1, 1) := by decide +kernel
theorem dX1_begins_5 : decode cX1_begins 5 = .ok (.aaload, 1) := by decide +kernel
theorem dX1_begins_6 : decode cX1_begins 6 = .ok (.astore_n 2, 1) := by decide +kernel
theorem dX1_begins_7 : decode cX1_begins 7 = .ok (.aload_n 2, 1) := by decide +kernel
theorem dX1_begins_8 : decode cX1_begins 8 = .ok (.getfield 147, 3) := by decide +kernel
theorem dX1_begins_11 : decode cX1_begins 11 = .ok (.ifCond .eq 19, 3) := by decide +kernel
theorem dX1_begins_14 : decode cX1_begins 14 = .ok (.aload_n 2, 1) := by decide +kernel
theorem dX1_begins_15 : decode cX1_begins 15 = .ok (.getfield 193, 3) := by decide +kernel
theorem dX1_begins_18 : decode cX1_begins 18 = .ok (.iconst 4, 1) := by decide +kernel
theorem dX1_begins_19 : decode cX1_begins 19 = .ok (.if_icmp .eq 11, 3) := by decide +kernel
theorem dX1_begins_22 : decode cX1_begins 22 = .ok (.aload_n 2, 1) := by decide +kernel
theorem dX1_begins_23 : decode cX1_begins 23 = .ok (.getfield 193, 3) := by decide +kernel
theorem dX1_begins_26 : decode cX1_begins 26 = .ok (.iconst 5, 1) := by decide +kernel
theorem dX1_begins_27 : decode cX1_begins 27 = .ok (.if_icmp .ne 4, 3) := by decide +kernel
theorem dX1_begins_30 : decode cX1_begins 30 = .ok (.return_, 1) := by decide +kernel
theorem dX1_begins_31 : decode cX1_begins 31 = .ok (.aload_n 2, 1) := by decide +kernel
theorem dX1_begins_32 : decode cX1_begins 32 = .ok (.iconst 1, 1) := by decide +kernel
theorem dX1_begins_33 : decode cX1_begins 33 = .ok (.putfield 193, 3) := by decide +kernel
theorem dX1_begins_36 : decode cX1_begins 36 = .ok (.aload_n 2, 1) := by decide +kernel
theorem dX1_begins_37 : decode cX1_begins 37 = .ok (.getfield 272, 3) := by decide +kernel
theorem dX1_begins_40 : decode cX1_begins 40 = .ok (.ifnull 8, 3) := by decide +kernel
theorem dX1_begins_43 : decode cX1_begins 43 = .ok (.aload_n 0, 1) := by decide +kernel
theorem dX1_begins_44 : decode cX1_begins 44 = .ok (.iload_n 1, 1) := by decide +kernel
theorem dX1_begins_45 : decode cX1_begins 45 = .ok (.invokevirtual 315, 3) := by decide +kernel
theorem dX1_begins_48 : decode cX1_begins 48 = .ok (.aload_n 2, 1) := by decide +kernel
theorem dX1_begins_49 : decode cX1_begins 49 = .ok (.aload_n 2, 1) := by decide +kernel
theorem dX1_begins_50 : decode cX1_begins 50 = .ok (.getfield 152, 3) := by decide +kernel
theorem dX1_begins_53 : decode cX1_begins 53 = .ok (.ifCond .ne 11, 3) := by decide +kernel
theorem dX1_begins_56 : decode cX1_begins 56 = .ok (.aload_n 2, 1) := by decide +kernel
theorem dX1_begins_57 : decode cX1_begins 57 = .ok (.getfield 193, 3) := by decide +kernel
theorem dX1_begins_60 : decode cX1_begins 60 = .ok (.iconst 1, 1) := by decide +kernel
theorem dX1_begins_61 : decode cX1_begins 61 = .ok (.if_icmp .ne 7, 3) := by decide +kernel
theorem dX1_begins_64 : decode cX1_begins 64 = .ok (.iconst 1, 1) := by decide +kernel
theorem dX1_begins_65 : decode cX1_begins 65 = .ok (.goto 4, 3) := by decide +kernel
theorem dX1_begins_68 : decode cX1_begins 68 = .ok (.iconst 0, 1) := by decide +kernel
theorem dX1_begins_69 : decode cX1_begins 69 = .ok (.putfield 152, 3) := by decide +kernel
theorem dX1_begins_72 : decode cX1_begins 72 = .ok (.return_, 1) := by decide +kernel
abbrev rm_X1_begins : Room := k2_rm 100 2131
section
variable {p : Program} {l : Launch} {e : Env} {s : State} {m : MethodId} {args : Array Value} {below : List Frame} {meth : Method} {c : Code} {D : gD} {A : Nat → Prop} {ad : Nat → Nat} {S : Nat → Nat × Nat} {σ : Mem}
set_option maxRecDepth 100000 in
set_option maxHeartbeats 4000000 in
theorem w_X1_begins {a1 : Int32} (hi0 : S 0 = (10, 0)) {r : Mem} (h : f_X1_begins σ S a1 = some r) : Met l yX1_begins (ws_ yX1_begins cX1_begins 3 none) rm_X1_begins (va_Pc [.ref (ad 0), .int a1] (PreG D (Ew D A) A ad S σ)) (QG D A ad S none r) 0 0 A := by
  refine y_met (by decide) (Nat.le_of_ble_eq_true rfl) (fun p e s m below meth c ls Z hS hl => ?_)
  have hx := Z.1
  have hb := Z.2.1
  have hown := Z.2.2.2.2.2.1
  have hts := Z.2.2.2.2.2.2.1
  unfold f_X1_begins at h
  refine lv_aload_n hx hb dX1_begins_0 rfl (lv_at hl 0 rfl) ?_
  refine h_getC (n := 3) (j := 3) (sh := (5, 8)) Z hS cls_0 hi0 (by decide) rfl rfl rfl fl_X1_24_0 dX1_begins_1 (fun hc1 => ?_)
  refine lv_iload_n hx hb dX1_begins_4 rfl (lv_at hl 1 rfl) ?_
  refine h_aldN (sh := (12, 0)) Z hS hc1 (by decide) (by decide) rfl dX1_begins_5 h (fun j2 hj2 h => ?_)
  refine lv_astore_n (lv' := [(2, .ref (ad j2)), (0, .ref (ad 0)), (1, .int a1)]) hx hb dX1_begins_6 rfl hl (by decide) rfl (fun ls hl => ?_)
  refine lv_aload_n hx hb dX1_begins_7 rfl (lv_at hl 0 rfl) ?_
  refine h_getI Z hS cls_2 hj2 (by decide) rfl fl_X1_147_2 dX1_begins_8 h (fun x3 h => ?_)
  refine lv_if_eq (tgt := 30) hx hb dX1_begins_11 (by decide) (fun c4 => ?_) (fun c4 => ?_)
  · have h := if_t h c4
    exact h_vret Z hS dX1_begins_30 h
  · have h := if_f h c4
    refine lv_aload_n hx hb dX1_begins_14 rfl (lv_at hl 0 rfl) ?_
    refine h_getI Z hS cls_2 hj2 (by decide) rfl fl_X1_193_2 dX1_begins_15 h (fun x5 h => ?_)
    refine lv_iconst (v := (4 : Int32)) hx hb dX1_begins_18 (by decide) ?_
    refine lv_icmp_eq (tgt := 30) hx hb dX1_begins_19 (by decide) (fun c6 => ?_) (fun c6 => ?_)
    · have h := if_t h c6
      exact h_vret Z hS dX1_begins_30 h
    · have h := if_f h c6
      refine lv_aload_n hx hb dX1_begins_22 rfl (lv_at hl 0 rfl) ?_
      refine h_getI Z hS cls_2 hj2 (by decide) rfl fl_X1_193_2 dX1_begins_23 h (fun x7 h => ?_)
      refine lv_iconst (v := (5 : Int32)) hx hb dX1_begins_26 (by decide) ?_
      refine lv_icmp_ne (tgt := 31) hx hb dX1_begins_27 (by decide) (fun c8 => ?_) (fun c8 => ?_)
      · have h := if_f h c8
        refine lv_aload_n hx hb dX1_begins_31 rfl (lv_at hl 0 rfl) ?_
        refine lv_iconst (v := (1 : Int32)) hx hb dX1_begins_32 (by decide) ?_
        refine h_putI Z hS cls_2 hj2 (by decide) rfl rfl rfl fl_X1_193_2 dX1_begins_33 h (fun σ9 H locs hS h => ?_)
        refine lv_aload_n hx hb dX1_begins_36 rfl (lv_at hl 0 rfl) ?_
        refine h_getQ Z hS cls_2 hj2 (by decide) rfl fl_X1_272_2 dX1_begins_37 h (fun o10 ho10 h => ?_)
        obtain ⟨σ12, hp13, h⟩ := bnd_el h
        have K13 : ∀ (H : Heap) (locs : List Loc) (ls : Array Slot), St D A ad S σ12 s.heap H locs → lv_has ls 3 [(2, .ref (ad j2))] → W p l e rm_X1_begins s m ([.ref (ad 0), .int a1] : List Value).toArray below meth c H locs 0 0 (MQ below (QG D A ad S none r) ([.ref (ad 0), .int a1] : List Value).toArray s 0 0 A) (F0 m 48 ls []) := by
          intro H locs ls hS hl
          refine lv_aload_n hx hb dX1_begins_48 rfl (lv_at hl 0 rfl) ?_
          refine lv_aload_n hx hb dX1_begins_49 rfl (lv_at hl 0 rfl) ?_
          refine h_getI Z hS cls_2 hj2 (by decide) rfl fl_X1_152_2 dX1_begins_50 h (fun x14 h => ?_)
          refine lv_if_ne (tgt := 64) hx hb dX1_begins_53 (by decide) (fun c15 => ?_) (fun c15 => ?_)
          · have h := if_f h c15
            refine lv_iconst (v := (1 : Int32)) hx hb dX1_begins_64 (by decide) ?_
            refine lv_goto (tgt := 69) hx hb dX1_begins_65 (by decide) ?_
            refine h_putZ Z hS cls_2 hj2 (by decide) rfl rfl rfl fl_X1_152_2 dX1_begins_69 h (fun σ20 H locs hS h => ?_)
            exact h_vret Z hS dX1_begins_72 h
          · have h := if_t h c15
            refine lv_aload_n hx hb dX1_begins_56 rfl (lv_at hl 0 rfl) ?_
            refine h_getI Z hS cls_2 hj2 (by decide) rfl fl_X1_193_2 dX1_begins_57 h (fun x16 h => ?_)
            refine lv_iconst (v := (1 : Int32)) hx hb dX1_begins_60 (by decide) ?_
            refine lv_icmp_ne (tgt := 68) hx hb dX1_begins_61 (by decide) (fun c17 => ?_) (fun c17 => ?_)
            · have h := if_f h c17
              refine lv_iconst (v := (0 : Int32)) hx hb dX1_begins_68 (by decide) ?_
              refine h_putZ Z hS cls_2 hj2 (by decide) rfl rfl rfl fl_X1_152_2 dX1_begins_69 h (fun σ19 H locs hS h => ?_)
              exact h_vret Z hS dX1_begins_72 h
            · have h := if_t h c17
              refine lv_iconst (v := (1 : Int32)) hx hb dX1_begins_64 (by decide) ?_
              refine lv_goto (tgt := 69) hx hb dX1_begins_65 (by decide) ?_
              refine h_putZ Z hS cls_2 hj2 (by decide) rfl rfl rfl fl_X1_152_2 dX1_begins_69 h (fun σ18 H locs hS h => ?_)
              exact h_vret Z hS dX1_begins_72 h
        clear h
        have h := hp13
        clear hp13
        refine h_ifnull (o := o10) (tgt := 48) Z dX1_begins_40 (by decide) (fun eo10 => ?_) (fun j11 eo10 => ?_)
        · subst eo10
          cases h
          exact K13 _ _ _ hS (lv_sub hl [0] rfl)
        · subst eo10
          have hj11 := ho10 j11 rfl
          replace hj11 : S j11 = (23, 0) := List.mem_singleton.mp hj11
          refine lv_aload_n hx hb dX1_begins_43 rfl (lv_at hl 1 rfl) ?_
          refine lv_iload_n hx hb dX1_begins_44 rfl (lv_at hl 2 rfl) ?_
          refine h_cm hS h (fun z hz => h_rV (rest := []) Z hS hi0 rfl v_X1_315 (w_X1_decides hi0 hz) rfl rfl ⟨by decide, by decide⟩ rfl hl.1 rfl (Nat.le_of_ble_eq_true rfl) (Nat.zero_le _) (Nat.zero_le _) dX1_begins_45) (fun σ21 H locs hS h => ?_)
          cases h
          exact K13 _ _ _ hS (lv_sub hl [0] rfl)
      · have h := if_t h c8
        exact h_vret Z hS dX1_begins_30 h
end
