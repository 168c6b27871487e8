set_option maxRecDepth 100000
theorem dX6_number_0 : decode cX6_number 0 = .ok (.aload_n 0, 1) := by decide +kernel
theorem dX6_number_1 : decode cX6_number 1 = .ok (.invokevirtual 235, 3) := by decide +kernel
theorem dX6_number_4 : decode cX6_number 4 = .ok (.invokestatic 239, 3) := by decide +kernel
theorem dX6_number_7 : decode cX6_number 7 = .ok (.ifCond .ne 8, 3) := by decide +kernel
theorem dX6_number_10 : decode cX6_number 10 = .ok (.aload_n 0, 1) := by decide +kernel
theorem dX6_number_11 : decode cX6_number 11 = .ok (.invokevirtual 232, 3) := by decide +kernel
theorem dX6_number_14 : decode cX6_number 14 = .ok (.return_, 1) := by decide +kernel
theorem dX6_number_15 : decode cX6_number 15 = .ok (.iconst 0, 1) := by decide +kernel
theorem dX6_number_16 : decode cX6_number 16 = .ok (.istore_n 1, 1) := by decide +kernel
theorem dX6_number_17 : decode cX6_number 17 = .ok (.iconst 0, 1) := by decide +kernel
theorem dX6_number_18 : decode cX6_number 18 = .ok (.istore_n 2, 1) := by decide +kernel
theorem dX6_number_19 : decode cX6_number 19 = .ok (.aload_n 0, 1) := by decide +kernel
theorem dX6_number_20 : decode cX6_number 20 = .ok (.getfield 220, 3) := by decide +kernel
theorem dX6_number_23 : decode cX6_number 23 = .ok (.aload_n 0, 1) := by decide +kernel
theorem dX6_number_24 : decode cX6_number 24 = .ok (.getfield 217, 3) := by decide +kernel
theorem dX6_number_27 : decode cX6_number 27 = .ok (.if_icmp .ge 62, 3) := by decide +kernel
theorem dX6_number_30 : decode cX6_number 30 = .ok (.aload_n 0, 1) := by decide +kernel
theorem dX6_number_31 : decode cX6_number 31 = .ok (.getfield 77, 3) := by decide +kernel
theorem dX6_number_34 : decode cX6_number 34 = .ok (.aload_n 0, 1) := by decide +kernel
theorem dX6_number_35 : decode cX6_number 35 = .ok (.getfield 220, 3) := by decide +kernel
theorem dX6_number_38 : decode cX6_number 38 = .ok (.iaload, 1) := by decide +kernel
theorem dX6_number_39 : decode cX6_number 39 = .ok (.invokestatic 239, 3) := by decide +kernel
theorem dX6_number_42 : decode cX6_number 42 = .ok (.ifCond .eq 47, 3) := by decide +kernel
theorem dX6_number_45 : decode cX6_number 45 = .ok (.iload_n 2, 1) := by decide +kernel
theorem dX6_number_46 : decode cX6_number 46 = .ok (.iconst 4, 1) := by decide +kernel
theorem dX6_number_47 : decode cX6_number 47 = .ok (.if_icmp .ne 8, 3) := by decide +kernel
theorem dX6_number_50 : decode cX6_number 50 = .ok (.aload_n 0, 1) := by decide +kernel
theorem dX6_number_51 : decode cX6_number 51 = .ok (.invokevirtual 232, 3) := by decide +kernel
theorem dX6_number_54 : decode cX6_number 54 = .ok (.return_, 1) := by decide +kernel
theorem dX6_number_55 : decode cX6_number 55 = .ok (.bipush 10, 2) := by decide +kernel
theorem dX6_number_57 : decode cX6_number 57 = .ok (.iload_n 1, 1) := by decide +kernel
theorem dX6_number_58 : decode cX6_number 58 = .ok (.imul, 1) := by decide +kernel
theorem dX6_number_59 : decode cX6_number 59 = .ok (.aload_n 0, 1) := by decide +kernel
theorem dX6_number_60 : decode cX6_number 60 = .ok (.getfield 77, 3) := by decide +kernel
theorem dX6_number_63 : decode cX6_number 63 = .ok (.aload_n 0, 1) := by decide +kernel
theorem dX6_number_64 : decode cX6_number 64 = .ok (.getfield 220, 3) := by decide +kernel
theorem dX6_number_67 : decode cX6_number 67 = .ok (.iaload, 1) := by decide +kernel
theorem dX6_number_68 : decode cX6_number 68 = .ok (.iadd, 1) := by decide +kernel
theorem dX6_number_69 : decode cX6_number 69 = .ok (.bipush 48, 2) := by decide +kernel
theorem dX6_number_71 : decode cX6_number 71 = .ok (.isub, 1) := by decide +kernel
theorem dX6_number_72 : decode cX6_number 72 = .ok (.istore_n 1, 1) := by decide +kernel
theorem dX6_number_73 : decode cX6_number 73 = .ok (.iinc 2 1, 3) := by decide +kernel
theorem dX6_number_76 : decode cX6_number 76 = .ok (.aload_n 0, 1) := by decide +kernel
theorem dX6_number_77 : decode cX6_number 77 = .ok (.dup, 1) := by decide +kernel
theorem dX6_number_78 : decode cX6_number 78 = .ok (.getfield 220, 3) := by decide +kernel
theorem dX6_number_81 : decode cX6_number 81 = .ok (.iconst 1, 1) := by decide +kernel
theorem dX6_number_82 : decode cX6_number 82 = .ok (.iadd, 1) := by decide +kernel
theorem dX6_number_83 : decode cX6_number 83 = .ok (.putfield 220, 3) := by decide +kernel
theorem dX6_number_86 : decode cX6_number 86 = .ok (.goto (-67), 3) := by decide +kernel
theorem dX6_number_89 : decode cX6_number 89 = .ok (.aload_n 0, 1) := by decide +kernel
theorem dX6_number_90 : decode cX6_number 90 = .ok (.iconst 0, 1) := by decide +kernel
theorem dX6_number_91 : decode cX6_number 91 = .ok (.invokevirtual 242, 3) := by decide +kernel
theorem dX6_number_94 : decode cX6_number 94 = .ok (.aload_n 0, 1) := by decide +kernel
theorem dX6_number_95 : decode cX6_number 95 = .ok (.iload_n 1, 1) := by decide +kernel
theorem dX6_number_96 : decode cX6_number 96 = .ok (.invokevirtual 242, 3) := by decide +kernel
theorem dX6_number_99 : decode cX6_number 99 = .ok (.return_, 1) := by decide +kernel
abbrev rm_X6_number : Room := k2_rm 1 21
section
variable {p : Program} {l : Launch} {e : Env} {s : State} {m : MethodId} {args : Array Value} {below : List Frame} {meth : Method} {c : Code} {D : gD} {A : Nat → Prop} {ad : Nat → Nat} {S : Nat → Nat × Nat} {σ : Mem}
set_option maxRecDepth 100000 in
set_option maxHeartbeats 4000000 in
theorem w_X6_number_L19 (Z : Cz D (Ew D A) A cX6_number 3 none RX6 p s m args meth c) (hu0 : S 200 = (24, 0)) {r : Mem} {k50 : Mem → Option Mem} {k89 : Mem → Int32 → Option Mem}
    (hk50 : ∀ (σ : Mem)  (H : Heap) (locs : List Loc) (ls : Array Slot), St D A ad S σ s.heap H locs → lv_has ls 3 [(0, .ref (ad 200))] → k50 σ = some r → W p l e rm_X6_number s m args below meth c H locs 0 0 (MQ below (QG D A ad S none r) args s 0 0 A) (F0 m 50 ls []))
    (hk89 : ∀ (σ : Mem) (w1 : Int32) (H : Heap) (locs : List Loc) (ls : Array Slot), St D A ad S σ s.heap H locs → lv_has ls 3 [(0, .ref (ad 200)), (1, .int w1)] → k89 σ w1 = some r → W p l e rm_X6_number s m args below meth c H locs 0 0 (MQ below (QG D A ad S none r) args s 0 0 A) (F0 m 89 ls [])) :
    ∀ (n : Nat) (σ : Mem) (v1 : Int32) (v2 : Int32) (H : Heap) (locs : List Loc) (ls : Array Slot), St D A ad S σ s.heap H locs → lv_has ls 3 [(0, .ref (ad 200)), (1, .int v1), (2, .int v2)] → f_X6_number_L19 k50 k89 n σ v1 v2 = some r → W p l e rm_X6_number s m args below meth c H locs 0 0 (MQ below (QG D A ad S none r) args s 0 0 A) (F0 m 19 ls []) := by
  have hx := Z.1
  have hb := Z.2.1
  have hown := Z.2.2.2.2.2.1
  have hts := Z.2.2.2.2.2.2.1
  intro n
  induction n with
  | zero => intro σ v1 v2 H locs ls hS hl h; cases h
  | succ n ih =>
    intro σ v1 v2 H locs ls hS hl h
    unfold f_X6_number_L19 at h
    refine lv_aload_n hx hb dX6_number_19 rfl (lv_at hl 0 rfl) ?_
    refine h_getI Z hS cls_14 hu0 (by decide) rfl fl_X6_220_14 dX6_number_20 h (fun x6 h => ?_)
    refine lv_aload_n hx hb dX6_number_23 rfl (lv_at hl 0 rfl) ?_
    refine h_getI Z hS cls_14 hu0 (by decide) rfl fl_X6_217_14 dX6_number_24 h (fun x7 h => ?_)
    refine lv_icmp_ge (tgt := 89) hx hb dX6_number_27 (by decide) (fun c8 => ?_) (fun c8 => ?_)
    · have h := if_t h c8
      exact hk89 _ _ _ _ _ hS (lv_sub hl [0, 1] rfl) h
    · have h := if_f h c8
      refine lv_aload_n hx hb dX6_number_30 rfl (lv_at hl 0 rfl) ?_
      refine h_getC (n := 26) (j := 226) (sh := (1, 160)) Z hS cls_14 hu0 (by decide) rfl rfl rfl fl_X6_77_14 dX6_number_31 (fun hc9 => ?_)
      refine lv_aload_n hx hb dX6_number_34 rfl (lv_at hl 0 rfl) ?_
      refine h_getI Z hS cls_14 hu0 (by decide) rfl fl_X6_220_14 dX6_number_35 h (fun x10 h => ?_)
      refine h_iald Z hS hc9 dX6_number_38 h (fun x11 h => ?_)
      refine h_ci hS h (fun z hz => h_rS (rest := []) Z hS v_X6_239 (w_X6_isDigit hz) rfl rfl ⟨by decide, by decide⟩ rfl hl.1 rfl (Nat.le_of_ble_eq_true rfl) (Nat.zero_le _) (Nat.zero_le _) dX6_number_39) (fun x12 H locs hS h => ?_)
      refine lv_if_eq (tgt := 89) hx hb dX6_number_42 (by decide) (fun c13 => ?_) (fun c13 => ?_)
      · have h := if_t h c13
        exact hk89 _ _ _ _ _ hS (lv_sub hl [0, 1] rfl) h
      · have h := if_f h c13
        refine lv_iload_n hx hb dX6_number_45 rfl (lv_at hl 2 rfl) ?_
        refine lv_iconst (v := (4 : Int32)) hx hb dX6_number_46 (by decide) ?_
        refine lv_icmp_ne (tgt := 55) hx hb dX6_number_47 (by decide) (fun c14 => ?_) (fun c14 => ?_)
        · have h := if_f h c14
          refine lv_bipush (v := (10 : Int32)) hx hb dX6_number_55 (by decide) ?_
          refine lv_iload_n hx hb dX6_number_57 rfl (lv_at hl 1 rfl) ?_
          refine lv_imul hx hb dX6_number_58 ?_
          refine lv_aload_n hx hb dX6_number_59 rfl (lv_at hl 0 rfl) ?_
          refine h_getC (n := 26) (j := 226) (sh := (1, 160)) Z hS cls_14 hu0 (by decide) rfl rfl rfl fl_X6_77_14 dX6_number_60 (fun hc15 => ?_)
          refine lv_aload_n hx hb dX6_number_63 rfl (lv_at hl 0 rfl) ?_
          refine h_getI Z hS cls_14 hu0 (by decide) rfl fl_X6_220_14 dX6_number_64 h (fun x16 h => ?_)
          refine h_iald Z hS hc15 dX6_number_67 h (fun x17 h => ?_)
          refine lv_iadd hx hb dX6_number_68 ?_
          refine lv_bipush (v := (48 : Int32)) hx hb dX6_number_69 (by decide) ?_
          refine lv_isub hx hb dX6_number_71 ?_
          refine h_leti h (fun x18 h => ?_)
          refine lv_istore_n (lv' := [(1, .int x18), (0, .ref (ad 200)), (2, .int v2)]) hx hb dX6_number_72 rfl hl (by decide) rfl (fun ls hl => ?_)
          refine lv_iinc (v := (v2 + (1 : Int32))) (lv' := [(2, .int (v2 + (1 : Int32))), (1, .int x18), (0, .ref (ad 200))]) hx hb dX6_number_73 hl (k := 2) rfl rfl (by decide) rfl (fun ls hl => ?_)
          refine lv_aload_n hx hb dX6_number_76 rfl (lv_at hl 2 rfl) ?_
          refine lv_dup hx hb dX6_number_77 rfl ?_
          refine h_getI Z hS cls_14 hu0 (by decide) rfl fl_X6_220_14 dX6_number_78 h (fun x19 h => ?_)
          refine lv_iconst (v := (1 : Int32)) hx hb dX6_number_81 (by decide) ?_
          refine lv_iadd hx hb dX6_number_82 ?_
          refine h_putI Z hS cls_14 hu0 (by decide) rfl rfl rfl fl_X6_220_14 dX6_number_83 h (fun σ20 H locs hS h => ?_)
          refine lv_goto (tgt := 19) hx hb dX6_number_86 (by decide) ?_
          exact ih _ _ _ _ _ _ hS (lv_sub hl [2, 1, 0] rfl) h
        · have h := if_t h c14
          exact hk50 _ _ _ _ hS (lv_sub hl [0] rfl) h
set_option maxRecDepth 100000 in
set_option maxHeartbeats 4000000 in
theorem w_X6_number (hi0 : S 200 = (24, 0)) {r : Mem} (h : f_X6_number σ = some r) : Met l yX6_number (ws_ yX6_number cX6_number 3 none) rm_X6_number (va_Pc [.ref (ad 200)] (PreG D (Ew D A) A ad S σ)) (QG D A ad S none r) 0 0 A := by
  refine y_met (by decide) (Nat.le_of_ble_eq_true rfl) (fun p e s m below meth c ls Z hS hl => ?_)
  have hx := Z.1
  have hb := Z.2.1
  have hown := Z.2.2.2.2.2.1
  have hts := Z.2.2.2.2.2.2.1
  unfold f_X6_number at h
  refine lv_aload_n hx hb dX6_number_0 rfl (lv_at hl 0 rfl) ?_
  refine h_cim hS h (fun z hz => h_rV (rest := []) Z hS hi0 rfl v_X6_235 (w_X6_look hi0 hz) rfl rfl ⟨by decide, by decide⟩ rfl hl.1 rfl (Nat.le_of_ble_eq_true rfl) (Nat.zero_le _) (Nat.zero_le _) dX6_number_1) (fun σ1 x2 H locs hS h => ?_)
  refine h_ci hS h (fun z hz => h_rS (rest := []) Z hS v_X6_239 (w_X6_isDigit hz) rfl rfl ⟨by decide, by decide⟩ rfl hl.1 rfl (Nat.le_of_ble_eq_true rfl) (Nat.zero_le _) (Nat.zero_le _) dX6_number_4) (fun x3 H locs hS h => ?_)
  refine lv_if_ne (tgt := 15) hx hb dX6_number_7 (by decide) (fun c4 => ?_) (fun c4 => ?_)
  · have h := if_f h c4
    refine lv_iconst (v := (0 : Int32)) hx hb dX6_number_15 (by decide) ?_
    refine lv_istore_n (lv' := [(1, .int (0 : Int32)), (0, .ref (ad 200))]) hx hb dX6_number_16 rfl hl (by decide) rfl (fun ls hl => ?_)
    refine lv_iconst (v := (0 : Int32)) hx hb dX6_number_17 (by decide) ?_
    refine lv_istore_n (lv' := [(2, .int (0 : Int32)), (1, .int (0 : Int32)), (0, .ref (ad 200))]) hx hb dX6_number_18 rfl hl (by decide) rfl (fun ls hl => ?_)
    refine w_X6_number_L19 Z hi0 (fun σ21 H locs ls hS hl h => ?_) (fun σ23 x24 H locs ls hS hl h => ?_) FU _ _ _ _ _ _ hS (lv_sub hl [2, 1, 0] rfl) h
    · refine lv_aload_n hx hb dX6_number_50 rfl (lv_at hl 0 rfl) ?_
      refine h_cm hS h (fun z hz => h_rV (rest := []) Z hS hi0 rfl v_X6_232 (w_X6_bad hi0 hz) rfl rfl ⟨by decide, by decide⟩ rfl hl.1 rfl (Nat.le_of_ble_eq_true rfl) (Nat.zero_le _) (Nat.zero_le _) dX6_number_51) (fun σ22 H locs hS h => ?_)
      exact h_vret Z hS dX6_number_54 h
    · refine lv_aload_n hx hb dX6_number_89 rfl (lv_at hl 0 rfl) ?_
      refine lv_iconst (v := (0 : Int32)) hx hb dX6_number_90 (by decide) ?_
      refine h_cm hS h (fun z hz => h_rV (rest := []) Z hS hi0 rfl v_X6_242 (w_X6_say hi0 hz) rfl rfl ⟨by decide, by decide⟩ rfl hl.1 rfl (Nat.le_of_ble_eq_true rfl) (Nat.zero_le _) (Nat.zero_le _) dX6_number_91) (fun σ25 H locs hS h => ?_)
      refine lv_aload_n hx hb dX6_number_94 rfl (lv_at hl 0 rfl) ?_
      refine lv_iload_n hx hb dX6_number_95 rfl (lv_at hl 1 rfl) ?_
      refine h_cm hS h (fun z hz => h_rV (rest := []) Z hS hi0 rfl v_X6_242 (w_X6_say hi0 hz) rfl rfl ⟨by decide, by decide⟩ rfl hl.1 rfl (Nat.le_of_ble_eq_true rfl) (Nat.zero_le _) (Nat.zero_le _) dX6_number_96) (fun σ26 H locs hS h => ?_)
      exact h_vret Z hS dX6_number_99 h
  · have h := if_t h c4
    refine lv_aload_n hx hb dX6_number_10 rfl (lv_at hl 0 rfl) ?_
    refine h_cm hS h (fun z hz => h_rV (rest := []) Z hS hi0 rfl v_X6_232 (w_X6_bad hi0 hz) rfl rfl ⟨by decide, by decide⟩ rfl hl.1 rfl (Nat.le_of_ble_eq_true rfl) (Nat.zero_le _) (Nat.zero_le _) dX6_number_11) (fun σ5 H locs hS h => ?_)
    exact h_vret Z hS dX6_number_14 h
end
theorem dX6_atom_0 : decode cX6_atom 0 = .ok (.aload_n 0, 1) := by decide +kernel
theorem dX6_atom_1 : decode cX6_atom 1 = .ok (.invokevirtual 235, 3) := by decide +kernel
theorem dX6_atom_4 : decode cX6_atom 4 = .ok (.istore_n 1, 1) := by decide +kernel
theorem dX6_atom_5 : decode cX6_atom 5 = .ok (.iload_n 1, 1) := by decide +kernel
theorem dX6_atom_6 : decode cX6_atom 6 = .ok (.bipush 91, 2) := by decide +kernel
theorem dX6_atom_8 : decode cX6_atom 8 = .ok (.if_icmp .ne 23, 3) := by decide +kernel
theorem dX6_atom_11 : decode cX6_atom 11 = .ok (.aload_n 0, 1) := by decide +kernel
theorem dX6_atom_12 : decode cX6_atom 12 = .ok (.invokevirtual 246, 3) := by decide +kernel
theorem dX6_atom_15 : decode cX6_atom 15 = .ok (.ifCond .eq 50, 3) := by decide +kernel
theorem dX6_atom_18 : decode cX6_atom 18 = .ok (.aload_n 0, 1) := by decide +kernel
theorem dX6_atom_19 : decode cX6_atom 19 = .ok (.invokevirtual 250, 3) := by decide +kernel
theorem dX6_atom_22 : decode cX6_atom 22 = .ok (.aload_n 0, 1) := by decide +kernel
theorem dX6_atom_23 : decode cX6_atom 23 = .ok (.bipush 93, 2) := by decide +kernel
theorem dX6_atom_25 : decode cX6_atom 25 = .ok (.invokevirtual 253, 3) := by decide +kernel
theorem dX6_atom_28 : decode cX6_atom 28 = .ok (.goto 37, 3) := by decide +kernel
theorem dX6_atom_31 : decode cX6_atom 31 = .ok (.iload_n 1, 1) := by decide +kernel
theorem dX6_atom_32 : decode cX6_atom 32 = .ok (.invokestatic 256, 3) := by decide +kernel
theorem dX6_atom_35 : decode cX6_atom 35 = .ok (.ifCond .eq 26, 3) := by decide +kernel
theorem dX6_atom_38 : decode cX6_atom 38 = .ok (.aload_n 0, 1) := by decide +kernel
theorem dX6_atom_39 : decode cX6_atom 39 = .ok (.dup, 1) := by decide +kernel
theorem dX6_atom_40 : decode cX6_atom 40 = .ok (.getfield 220, 3) := by decide +kernel
theorem dX6_atom_43 : decode cX6_atom 43 = .ok (.iconst 1, 1) := by decide +kernel
theorem dX6_atom_44 : decode cX6_atom 44 = .ok (.iadd, 1) := by decide +kernel
theorem dX6_atom_45 : decode cX6_atom 45 = .ok (.putfield 220, 3) := by decide +kernel
theorem dX6_atom_48 : decode cX6_atom 48 = .ok (.aload_n 0, 1) := by decide +kernel
theorem dX6_atom_49 : decode cX6_atom 49 = .ok (.iconst 1, 1) := by decide +kernel
theorem dX6_atom_50 : decode cX6_atom 50 = .ok (.invokevirtual 242, 3) := by decide +kernel
theorem dX6_atom_53 : decode cX6_atom 53 = .ok (.aload_n 0, 1) := by decide +kernel
theorem dX6_atom_54 : decode cX6_atom 54 = .ok (.iload_n 1, 1) := by decide +kernel
theorem dX6_atom_55 : decode cX6_atom 55 = .ok (.invokevirtual 242, 3) := by decide +kernel
theorem dX6_atom_58 : decode cX6_atom 58 = .ok (.goto 7, 3) := by decide +kernel
theorem dX6_atom_61 : decode cX6_atom 61 = .ok (.aload_n 0, 1) := by decide +kernel
theorem dX6_atom_62 : decode cX6_atom 62 = .ok (.invokevirtual 259, 3) := by decide +kernel
theorem dX6_atom_65 : decode cX6_atom 65 = .ok (.return_, 1) := by decide +kernel
abbrev rm_X6_atom_b (qf ql : Nat) : Room := k2_rm (qf + 2) (ql + 43)
section
variable {p : Program} {l : Launch} {e : Env} {s : State} {m : MethodId} {args : Array Value} {below : List Frame} {meth : Method} {c : Code} {D : gD} {A : Nat → Prop} {ad : Nat → Nat} {S : Nat → Nat × Nat} {σ : Mem}
set_option maxRecDepth 100000 in
set_option maxHeartbeats 4000000 in
theorem w_X6_atom_b {rec : Mem → Option Mem} {qf ql : Nat} (hrec : ∀ (σ : Mem) (r : Mem), rec σ = some r → Met l yX6_sum (ws_ yX6_sum cX6_sum 2 none) (k2_rm qf ql) (va_Pc [.ref (ad 200)] (PreG D (Ew D A) A ad S σ)) (QG D A ad S none r) 0 0 A) (hi0 : S 200 = (24, 0)) {r : Mem} (h : f_X6_atom_b rec σ = some r) : Met l yX6_atom (ws_ yX6_atom cX6_atom 2 none) (rm_X6_atom_b qf ql) (va_Pc [.ref (ad 200)] (PreG D (Ew D A) A ad S σ)) (QG D A ad S none r) 0 0 A := by
  refine y_met (by decide) (Nat.le_of_ble_eq_true rfl) (fun p e s m below meth c ls Z hS hl => ?_)
  have hx := Z.1
  have hb := Z.2.1
  have hown := Z.2.2.2.2.2.1
  have hts := Z.2.2.2.2.2.2.1
  unfold f_X6_atom_b at h
  refine lv_aload_n hx hb dX6_atom_0 rfl (lv_at hl 0 rfl) ?_
  refine h_cim hS h (fun z hz => h_rV (rest := []) Z hS hi0 rfl v_X6_235 (w_X6_look hi0 hz) rfl rfl ⟨by show 0 + 1 ≤ qf + 2; omega, by show 8 + (1 + 11) + (0) ≤ ql + 43; omega⟩ rfl hl.1 rfl (Nat.le_of_ble_eq_true rfl) (Nat.zero_le _) (Nat.zero_le _) dX6_atom_1) (fun σ1 x2 H locs hS h => ?_)
  refine lv_istore_n (lv' := [(1, .int x2), (0, .ref (ad 200))]) hx hb dX6_atom_4 rfl hl (by decide) rfl (fun ls hl => ?_)
  refine lv_iload_n hx hb dX6_atom_5 rfl (lv_at hl 0 rfl) ?_
  refine lv_bipush (v := (91 : Int32)) hx hb dX6_atom_6 (by decide) ?_
  refine lv_icmp_ne (tgt := 31) hx hb dX6_atom_8 (by decide) (fun c3 => ?_) (fun c3 => ?_)
  · have h := if_f h c3
    refine lv_iload_n hx hb dX6_atom_31 rfl (lv_at hl 0 rfl) ?_
    refine h_ci hS h (fun z hz => h_rS (rest := []) Z hS v_X6_256 (w_X6_isLetter hz) rfl rfl ⟨by show 0 + 1 ≤ qf + 2; omega, by show 8 + (1 + 11) + (0) ≤ ql + 43; omega⟩ rfl hl.1 rfl (Nat.le_of_ble_eq_true rfl) (Nat.zero_le _) (Nat.zero_le _) dX6_atom_32) (fun x9 H locs hS h => ?_)
    refine lv_if_eq (tgt := 61) hx hb dX6_atom_35 (by decide) (fun c10 => ?_) (fun c10 => ?_)
    · have h := if_t h c10
      refine lv_aload_n hx hb dX6_atom_61 rfl (lv_at hl 1 rfl) ?_
      refine h_cm hS h (fun z hz => h_rV (rest := []) Z hS hi0 rfl v_X6_259 (w_X6_number hi0 hz) rfl rfl ⟨by show 1 + 1 ≤ qf + 2; omega, by show 8 + (3 + 11) + (21) ≤ ql + 43; omega⟩ rfl hl.1 rfl (Nat.le_of_ble_eq_true rfl) (Nat.zero_le _) (Nat.zero_le _) dX6_atom_62) (fun σ11 H locs hS h => ?_)
      exact h_vret Z hS dX6_atom_65 h
    · have h := if_f h c10
      refine lv_aload_n hx hb dX6_atom_38 rfl (lv_at hl 1 rfl) ?_
      refine lv_dup hx hb dX6_atom_39 rfl ?_
      refine h_getI Z hS cls_14 hi0 (by decide) rfl fl_X6_220_14 dX6_atom_40 h (fun x12 h => ?_)
      refine lv_iconst (v := (1 : Int32)) hx hb dX6_atom_43 (by decide) ?_
      refine lv_iadd hx hb dX6_atom_44 ?_
      refine h_putI Z hS cls_14 hi0 (by decide) rfl rfl rfl fl_X6_220_14 dX6_atom_45 h (fun σ13 H locs hS h => ?_)
      refine lv_aload_n hx hb dX6_atom_48 rfl (lv_at hl 1 rfl) ?_
      refine lv_iconst (v := (1 : Int32)) hx hb dX6_atom_49 (by decide) ?_
      refine h_cm hS h (fun z hz => h_rV (rest := []) Z hS hi0 rfl v_X6_242 (w_X6_say hi0 hz) rfl rfl ⟨by show 0 + 1 ≤ qf + 2; omega, by show 8 + (2 + 11) + (0) ≤ ql + 43; omega⟩ rfl hl.1 rfl (Nat.le_of_ble_eq_true rfl) (Nat.zero_le _) (Nat.zero_le _) dX6_atom_50) (fun σ14 H locs hS h => ?_)
      refine lv_aload_n hx hb dX6_atom_53 rfl (lv_at hl 1 rfl) ?_
      refine lv_iload_n hx hb dX6_atom_54 rfl (lv_at hl 0 rfl) ?_
      refine h_cm hS h (fun z hz => h_rV (rest := []) Z hS hi0 rfl v_X6_242 (w_X6_say hi0 hz) rfl rfl ⟨by show 0 + 1 ≤ qf + 2; omega, by show 8 + (2 + 11) + (0) ≤ ql + 43; omega⟩ rfl hl.1 rfl (Nat.le_of_ble_eq_true rfl) (Nat.zero_le _) (Nat.zero_le _) dX6_atom_55) (fun σ15 H locs hS h => ?_)
      refine lv_goto (tgt := 65) hx hb dX6_atom_58 (by decide) ?_
      exact h_vret Z hS dX6_atom_65 h
  · have h := if_t h c3
    refine lv_aload_n hx hb dX6_atom_11 rfl (lv_at hl 1 rfl) ?_
    refine h_cim hS h (fun z hz => h_rV (rest := []) Z hS hi0 rfl v_X6_246 (w_X6_opens hi0 hz) rfl rfl ⟨by show 1 + 1 ≤ qf + 2; omega, by show 8 + (1 + 11) + (20) ≤ ql + 43; omega⟩ rfl hl.1 rfl (Nat.le_of_ble_eq_true rfl) (Nat.zero_le _) (Nat.zero_le _) dX6_atom_12) (fun σ4 x5 H locs hS h => ?_)
    refine lv_if_eq (tgt := 65) hx hb dX6_atom_15 (by decide) (fun c6 => ?_) (fun c6 => ?_)
    · have h := if_t h c6
      exact h_vret Z hS dX6_atom_65 h
    · have h := if_f h c6
      refine lv_aload_n hx hb dX6_atom_18 rfl (lv_at hl 1 rfl) ?_
      refine h_cm hS h (fun z hz => h_rV (rest := []) Z hS hi0 rfl v_X6_250 (hrec _ _ hz) rfl rfl ⟨by show qf + 0 + 1 ≤ qf + 2; omega, by show 8 + (2 + 11) + (ql + 0) ≤ ql + 43; omega⟩ rfl hl.1 rfl (Nat.le_of_ble_eq_true rfl) (Nat.zero_le _) (Nat.zero_le _) dX6_atom_19) (fun σ7 H locs hS h => ?_)
      refine lv_aload_n hx hb dX6_atom_22 rfl (lv_at hl 1 rfl) ?_
      refine lv_bipush (v := (93 : Int32)) hx hb dX6_atom_23 (by decide) ?_
      refine h_cm hS h (fun z hz => h_rV (rest := []) Z hS hi0 rfl v_X6_253 (w_X6_closes hi0 hz) rfl rfl ⟨by show 1 + 1 ≤ qf + 2; omega, by show 8 + (2 + 11) + (20) ≤ ql + 43; omega⟩ rfl hl.1 rfl (Nat.le_of_ble_eq_true rfl) (Nat.zero_le _) (Nat.zero_le _) dX6_atom_25) (fun σ8 H locs hS h => ?_)
      refine lv_goto (tgt := 65) hx hb dX6_atom_28 (by decide) ?_
      exact h_vret Z hS dX6_atom_65 h
end
theorem dX6_term_0 : decode cX6_term 0 = .ok (.aload_n 0, 1) := by decide +kernel
theorem dX6_term_1 : decode cX6_term 1 = .ok (.invokevirtual 262, 3) := by decide +kernel
theorem dX6_term_4 : decode cX6_term 4 = .ok (.aload_n 0, 1) := by decide +kernel
theorem dX6_term_5 : decode cX6_term 5 = .ok (.invokevirtual 235, 3) := by decide +kernel
theorem dX6_term_8 : decode cX6_term 8 = .ok (.istore_n 1, 1) := by decide +kernel
theorem dX6_term_9 : decode cX6_term 9 = .ok (.aload_n 0, 1) := by decide +kernel
theorem dX6_term_10 : decode cX6_term 10 = .ok (.getfield 223, 3) := by decide +kernel
theorem dX6_term_13 : decode cX6_term 13 = .ok (.iconst (-1), 1) := by decide +kernel
theorem dX6_term_14 : decode cX6_term 14 = .ok (.if_icmp .ne 42, 3) := by decide +kernel
theorem dX6_term_17 : decode cX6_term 17 = .ok (.iload_n 1, 1) := by decide +kernel
theorem dX6_term_18 : decode cX6_term 18 = .ok (.bipush 42, 2) := by decide +kernel
theorem dX6_term_20 : decode cX6_term 20 = .ok (.if_icmp .eq 9, 3) := by decide +kernel
theorem dX6_term_23 : decode cX6_term 23 = .ok (.iload_n 1, 1) := by decide +kernel
theorem dX6_term_24 : decode cX6_term 24 = .ok (.bipush 47, 2) := by decide +kernel
theorem dX6_term_26 : decode cX6_term 26 = .ok (.if_icmp .ne 30, 3) := by decide +kernel
theorem dX6_term_29 : decode cX6_term 29 = .ok (.aload_n 0, 1) := by decide +kernel
theorem dX6_term_30 : decode cX6_term 30 = .ok (.dup, 1) := by decide +kernel
theorem dX6_term_31 : decode cX6_term 31 = .ok (.getfield 220, 3) := by decide +kernel
theorem dX6_term_34 : decode cX6_term 34 = .ok (.iconst 1, 1) := by decide +kernel
theorem dX6_term_35 : decode cX6_term 35 = .ok (.iadd, 1) := by decide +kernel
theorem dX6_term_36 : decode cX6_term 36 = .ok (.putfield 220, 3) := by decide +kernel
theorem dX6_term_39 : decode cX6_term 39 = .ok (.aload_n 0, 1) := by decide +kernel
theorem dX6_term_40 : decode cX6_term 40 = .ok (.invokevirtual 262, 3) := by decide +kernel
theorem dX6_term_43 : decode cX6_term 43 = .ok (.aload_n 0, 1) := by decide +kernel
theorem dX6_term_44 : decode cX6_term 44 = .ok (.iload_n 1, 1) := by decide +kernel
theorem dX6_term_45 : decode cX6_term 45 = .ok (.invokevirtual 242, 3) := by decide +kernel
theorem dX6_term_48 : decode cX6_term 48 = .ok (.aload_n 0, 1) := by decide +kernel
theorem dX6_term_49 : decode cX6_term 49 = .ok (.invokevirtual 235, 3) := by decide +kernel
theorem dX6_term_52 : decode cX6_term 52 = .ok (.istore_n 1, 1) := by decide +kernel
theorem dX6_term_53 : decode cX6_term 53 = .ok (.goto (-44), 3) := by decide +kernel
theorem dX6_term_56 : decode cX6_term 56 = .ok (.return_, 1) := by decide +kernel
abbrev rm_X6_term_b (qf ql : Nat) : Room := k2_rm (qf + 3) (ql + 64)
section
variable {p : Program} {l : Launch} {e : Env} {s : State} {m : MethodId} {args : Array Value} {below : List Frame} {meth : Method} {c : Code} {D : gD} {A : Nat → Prop} {ad : Nat → Nat} {S : Nat → Nat × Nat} {σ : Mem}
set_option maxRecDepth 100000 in
set_option maxHeartbeats 4000000 in
theorem w_X6_term_b_L9 {rec : Mem → Option Mem} {qf ql : Nat} (hrec : ∀ (σ : Mem) (r : Mem), rec σ = some r → Met l yX6_sum (ws_ yX6_sum cX6_sum 2 none) (k2_rm qf ql) (va_Pc [.ref (ad 200)] (PreG D (Ew D A) A ad S σ)) (QG D A ad S none r) 0 0 A) (Z : Cz D (Ew D A) A cX6_term 2 none RX6 p s m args meth c) (hu0 : S 200 = (24, 0)) {r : Mem} {k56 : Mem → Option Mem}
    (hk56 : ∀ (σ : Mem)  (H : Heap) (locs : List Loc) (ls : Array Slot), St D A ad S σ s.heap H locs → lv_has ls 2 [] → k56 σ = some r → W p l e (rm_X6_term_b qf ql) s m args below meth c H locs 0 0 (MQ below (QG D A ad S none r) args s 0 0 A) (F0 m 56 ls [])) :
    ∀ (n : Nat) (σ : Mem) (v1 : Int32) (H : Heap) (locs : List Loc) (ls : Array Slot), St D A ad S σ s.heap H locs → lv_has ls 2 [(0, .ref (ad 200)), (1, .int v1)] → f_X6_term_b_L9 rec k56 n σ v1 = some r → W p l e (rm_X6_term_b qf ql) s m args below meth c H locs 0 0 (MQ below (QG D A ad S none r) args s 0 0 A) (F0 m 9 ls []) := by
  have hx := Z.1
  have hb := Z.2.1
  have hown := Z.2.2.2.2.2.1
  have hts := Z.2.2.2.2.2.2.1
  intro n
  induction n with
  | zero => intro σ v1 H locs ls hS hl h; cases h
  | succ n ih =>
    intro σ v1 H locs ls hS hl h
    unfold f_X6_term_b_L9 at h
    refine lv_aload_n hx hb dX6_term_9 rfl (lv_at hl 0 rfl) ?_
    refine h_getI Z hS cls_14 hu0 (by decide) rfl fl_X6_223_14 dX6_term_10 h (fun x4 h => ?_)
    refine lv_iconst (v := (-1 : Int32)) hx hb dX6_term_13 (by decide) ?_
    refine lv_icmp_ne (tgt := 56) hx hb dX6_term_14 (by decide) (fun c5 => ?_) (fun c5 => ?_)
    · have h := if_f h c5
      exact hk56 _ _ _ _ hS (lv_sub hl [] rfl) h
    · have h := if_t h c5
      refine lv_iload_n hx hb dX6_term_17 rfl (lv_at hl 1 rfl) ?_
      refine lv_bipush (v := (42 : Int32)) hx hb dX6_term_18 (by decide) ?_
      refine lv_icmp_eq (tgt := 29) hx hb dX6_term_20 (by decide) (fun c6 => ?_) (fun c6 => ?_)
      · have h := if_t h c6
        refine lv_aload_n hx hb dX6_term_29 rfl (lv_at hl 0 rfl) ?_
        refine lv_dup hx hb dX6_term_30 rfl ?_
        refine h_getI Z hS cls_14 hu0 (by decide) rfl fl_X6_220_14 dX6_term_31 h (fun x7 h => ?_)
        refine lv_iconst (v := (1 : Int32)) hx hb dX6_term_34 (by decide) ?_
        refine lv_iadd hx hb dX6_term_35 ?_
        refine h_putI Z hS cls_14 hu0 (by decide) rfl rfl rfl fl_X6_220_14 dX6_term_36 h (fun σ8 H locs hS h => ?_)
        refine lv_aload_n hx hb dX6_term_39 rfl (lv_at hl 0 rfl) ?_
        refine h_cm hS h (fun z hz => h_rV (rest := []) Z hS hu0 rfl v_X6_262 (w_X6_atom_b hrec hu0 hz) rfl rfl ⟨by show qf + 2 + 1 ≤ qf + 3; omega, by show 8 + (2 + 11) + (ql + 43) ≤ ql + 64; omega⟩ rfl hl.1 rfl (Nat.le_of_ble_eq_true rfl) (Nat.zero_le _) (Nat.zero_le _) dX6_term_40) (fun σ9 H locs hS h => ?_)
        refine lv_aload_n hx hb dX6_term_43 rfl (lv_at hl 0 rfl) ?_
        refine lv_iload_n hx hb dX6_term_44 rfl (lv_at hl 1 rfl) ?_
        refine h_cm hS h (fun z hz => h_rV (rest := []) Z hS hu0 rfl v_X6_242 (w_X6_say hu0 hz) rfl rfl ⟨by show 0 + 1 ≤ qf + 3; omega, by show 8 + (2 + 11) + (0) ≤ ql + 64; omega⟩ rfl hl.1 rfl (Nat.le_of_ble_eq_true rfl) (Nat.zero_le _) (Nat.zero_le _) dX6_term_45) (fun σ10 H locs hS h => ?_)
        refine lv_aload_n hx hb dX6_term_48 rfl (lv_at hl 0 rfl) ?_
        refine h_cim hS h (fun z hz => h_rV (rest := []) Z hS hu0 rfl v_X6_235 (w_X6_look hu0 hz) rfl rfl ⟨by show 0 + 1 ≤ qf + 3; omega, by show 8 + (1 + 11) + (0) ≤ ql + 64; omega⟩ rfl hl.1 rfl (Nat.le_of_ble_eq_true rfl) (Nat.zero_le _) (Nat.zero_le _) dX6_term_49) (fun σ11 x12 H locs hS h => ?_)
        refine lv_istore_n (lv' := [(1, .int x12), (0, .ref (ad 200))]) hx hb dX6_term_52 rfl hl (by decide) rfl (fun ls hl => ?_)
        refine lv_goto (tgt := 9) hx hb dX6_term_53 (by decide) ?_
        exact ih _ _ _ _ _ hS (lv_sub hl [1, 0] rfl) h
      · have h := if_f h c6
        refine lv_iload_n hx hb dX6_term_23 rfl (lv_at hl 1 rfl) ?_
        refine lv_bipush (v := (47 : Int32)) hx hb dX6_term_24 (by decide) ?_
        refine lv_icmp_ne (tgt := 56) hx hb dX6_term_26 (by decide) (fun c13 => ?_) (fun c13 => ?_)
        · have h := if_f h c13
          exact hk56 _ _ _ _ hS (lv_sub hl [] rfl) h
        · have h := if_t h c13
          refine lv_aload_n hx hb dX6_term_29 rfl (lv_at hl 0 rfl) ?_
          refine lv_dup hx hb dX6_term_30 rfl ?_
          refine h_getI Z hS cls_14 hu0 (by decide) rfl fl_X6_220_14 dX6_term_31 h (fun x14 h => ?_)
          refine lv_iconst (v := (1 : Int32)) hx hb dX6_term_34 (by decide) ?_
          refine lv_iadd hx hb dX6_term_35 ?_
          refine h_putI Z hS cls_14 hu0 (by decide) rfl rfl rfl fl_X6_220_14 dX6_term_36 h (fun σ15 H locs hS h => ?_)
          refine lv_aload_n hx hb dX6_term_39 rfl (lv_at hl 0 rfl) ?_
          refine h_cm hS h (fun z hz => h_rV (rest := []) Z hS hu0 rfl v_X6_262 (w_X6_atom_b hrec hu0 hz) rfl rfl ⟨by show qf + 2 + 1 ≤ qf + 3; omega, by show 8 + (2 + 11) + (ql + 43) ≤ ql + 64; omega⟩ rfl hl.1 rfl (Nat.le_of_ble_eq_true rfl) (Nat.zero_le _) (Nat.zero_le _) dX6_term_40) (fun σ16 H locs hS h => ?_)
          refine lv_aload_n hx hb dX6_term_43 rfl (lv_at hl 0 rfl) ?_
          refine lv_iload_n hx hb dX6_term_44 rfl (lv_at hl 1 rfl) ?_
          refine h_cm hS h (fun z hz => h_rV (rest := []) Z hS hu0 rfl v_X6_242 (w_X6_say hu0 hz) rfl rfl ⟨by show 0 + 1 ≤ qf + 3; omega, by show 8 + (2 + 11) + (0) ≤ ql + 64; omega⟩ rfl hl.1 rfl (Nat.le_of_ble_eq_true rfl) (Nat.zero_le _) (Nat.zero_le _) dX6_term_45) (fun σ17 H locs hS h => ?_)
          refine lv_aload_n hx hb dX6_term_48 rfl (lv_at hl 0 rfl) ?_
          refine h_cim hS h (fun z hz => h_rV (rest := []) Z hS hu0 rfl v_X6_235 (w_X6_look hu0 hz) rfl rfl ⟨by show 0 + 1 ≤ qf + 3; omega, by show 8 + (1 + 11) + (0) ≤ ql + 64; omega⟩ rfl hl.1 rfl (Nat.le_of_ble_eq_true rfl) (Nat.zero_le _) (Nat.zero_le _) dX6_term_49) (fun σ18 x19 H locs hS h => ?_)
          refine lv_istore_n (lv' := [(1, .int x19), (0, .ref (ad 200))]) hx hb dX6_term_52 rfl hl (by decide) rfl (fun ls hl => ?_)
          refine lv_goto (tgt := 9) hx hb dX6_term_53 (by decide) ?_
          exact ih _ _ _ _ _ hS (lv_sub hl [1, 0] rfl) h
set_option maxRecDepth 100000 in
set_option maxHeartbeats 4000000 in
theorem w_X6_term_b {rec : Mem → Option Mem} {qf ql : Nat} (hrec : ∀ (σ : Mem) (r : Mem), rec σ = some r → Met l yX6_sum (ws_ yX6_sum cX6_sum 2 none) (k2_rm qf ql) (va_Pc [.ref (ad 200)] (PreG D (Ew D A) A ad S σ)) (QG D A ad S none r) 0 0 A) (hi0 : S 200 = (24, 0)) {r : Mem} (h : f_X6_term_b rec σ = some r) : Met l yX6_term (ws_ yX6_term cX6_term 2 none) (rm_X6_term_b qf ql) (va_Pc [.ref (ad 200)] (PreG D (Ew D A) A ad S σ)) (QG D A ad S none r) 0 0 A := by
  refine y_met (by decide) (Nat.le_of_ble_eq_true rfl) (fun p e s m below meth c ls Z hS hl => ?_)
  have hx := Z.1
  have hb := Z.2.1
  have hown := Z.2.2.2.2.2.1
  have hts := Z.2.2.2.2.2.2.1
  unfold f_X6_term_b at h
  refine lv_aload_n hx hb dX6_term_0 rfl (lv_at hl 0 rfl) ?_
  refine h_cm hS h (fun z hz => h_rV (rest := []) Z hS hi0 rfl v_X6_262 (w_X6_atom_b hrec hi0 hz) rfl rfl ⟨by show qf + 2 + 1 ≤ qf + 3; omega, by show 8 + (2 + 11) + (ql + 43) ≤ ql + 64; omega⟩ rfl hl.1 rfl (Nat.le_of_ble_eq_true rfl) (Nat.zero_le _) (Nat.zero_le _) dX6_term_1) (fun σ1 H locs hS h => ?_)
  refine lv_aload_n hx hb dX6_term_4 rfl (lv_at hl 0 rfl) ?_
  refine h_cim hS h (fun z hz => h_rV (rest := []) Z hS hi0 rfl v_X6_235 (w_X6_look hi0 hz) rfl rfl ⟨by show 0 + 1 ≤ qf + 3; omega, by show 8 + (1 + 11) + (0) ≤ ql + 64; omega⟩ rfl hl.1 rfl (Nat.le_of_ble_eq_true rfl) (Nat.zero_le _) (Nat.zero_le _) dX6_term_5) (fun σ2 x3 H locs hS h => ?_)
  refine lv_istore_n (lv' := [(1, .int x3), (0, .ref (ad 200))]) hx hb dX6_term_8 rfl hl (by decide) rfl (fun ls hl => ?_)
  refine w_X6_term_b_L9 hrec Z hi0 (fun σ20 H locs ls hS hl h => ?_) FU _ _ _ _ _ hS (lv_sub hl [1, 0] rfl) h
  exact h_vret Z hS dX6_term_56 h
end
theorem dX6_sum_0 : decode cX6_sum 0 = .ok (.aload_n 0, 1) := by decide +kernel
theorem dX6_sum_1 : decode cX6_sum 1 = .ok (.invokevirtual 265, 3) := by decide +kernel
theorem dX6_sum_4 : decode cX6_sum 4 = .ok (.aload_n 0, 1) := by decide +kernel
theorem dX6_sum_5 : decode cX6_sum 5 = .ok (.invokevirtual 235, 3) := by decide +kernel
theorem dX6_sum_8 : decode cX6_sum 8 = .ok (.istore_n 1, 1) := by decide +kernel
theorem dX6_sum_9 : decode cX6_sum 9 = .ok (.aload_n 0, 1) := by decide +kernel
theorem dX6_sum_10 : decode cX6_sum 10 = .ok (.getfield 223, 3) := by decide +kernel
theorem dX6_sum_13 : decode cX6_sum 13 = .ok (.iconst (-1), 1) := by decide +kernel
theorem dX6_sum_14 : decode cX6_sum 14 = .ok (.if_icmp .ne 42, 3) := by decide +kernel
theorem dX6_sum_17 : decode cX6_sum 17 = .ok (.iload_n 1, 1) := by decide +kernel
theorem dX6_sum_18 : decode cX6_sum 18 = .ok (.bipush 43, 2) := by decide +kernel
theorem dX6_sum_20 : decode cX6_sum 20 = .ok (.if_icmp .eq 9, 3) := by decide +kernel
theorem dX6_sum_23 : decode cX6_sum 23 = .ok (.iload_n 1, 1) := by decide +kernel
theorem dX6_sum_24 : decode cX6_sum 24 = .ok (.bipush 45, 2) := by decide +kernel
theorem dX6_sum_26 : decode cX6_sum 26 = .ok (.if_icmp .ne 30, 3) := by decide +kernel
theorem dX6_sum_29 : decode cX6_sum 29 = .ok (.aload_n 0, 1) := by decide +kernel
theorem dX6_sum_30 : decode cX6_sum 30 = .ok (.dup, 1) := by decide +kernel
theorem dX6_sum_31 : decode cX6_sum 31 = .ok (.getfield 220, 3) := by decide +kernel
theorem dX6_sum_34 : decode cX6_sum 34 = .ok (.iconst 1, 1) := by decide +kernel
theorem dX6_sum_35 : decode cX6_sum 35 = .ok (.iadd, 1) := by decide +kernel
theorem dX6_sum_36 : decode cX6_sum 36 = .ok (.putfield 220, 3) := by decide +kernel
theorem dX6_sum_39 : decode cX6_sum 39 = .ok (.aload_n 0, 1) := by decide +kernel
theorem dX6_sum_40 : decode cX6_sum 40 = .ok (.invokevirtual 265, 3) := by decide +kernel
theorem dX6_sum_43 : decode cX6_sum 43 = .ok (.aload_n 0, 1) := by decide +kernel
theorem dX6_sum_44 : decode cX6_sum 44 = .ok (.iload_n 1, 1) := by decide +kernel
theorem dX6_sum_45 : decode cX6_sum 45 = .ok (.invokevirtual 242, 3) := by decide +kernel
theorem dX6_sum_48 : decode cX6_sum 48 = .ok (.aload_n 0, 1) := by decide +kernel
theorem dX6_sum_49 : decode cX6_sum 49 = .ok (.invokevirtual 235, 3) := by decide +kernel
theorem dX6_sum_52 : decode cX6_sum 52 = .ok (.istore_n 1, 1) := by decide +kernel
theorem dX6_sum_53 : decode cX6_sum 53 = .ok (.goto (-44), 3) := by decide +kernel
theorem dX6_sum_56 : decode cX6_sum 56 = .ok (.return_, 1) := by decide +kernel
abbrev rm_X6_sum_b (qf ql : Nat) : Room := k2_rm (qf + 4) (ql + 85)
section
variable {p : Program} {l : Launch} {e : Env} {s : State} {m : MethodId} {args : Array Value} {below : List Frame} {meth : Method} {c : Code} {D : gD} {A : Nat → Prop} {ad : Nat → Nat} {S : Nat → Nat × Nat} {σ : Mem}
set_option maxRecDepth 100000 in
set_option maxHeartbeats 4000000 in
theorem w_X6_sum_b_L9 {rec : Mem → Option Mem} {qf ql : Nat} (hrec : ∀ (σ : Mem) (r : Mem), rec σ = some r → Met l yX6_sum (ws_ yX6_sum cX6_sum 2 none) (k2_rm qf ql) (va_Pc [.ref (ad 200)] (PreG D (Ew D A) A ad S σ)) (QG D A ad S none r) 0 0 A) (Z : Cz D (Ew D A) A cX6_sum 2 none RX6 p s m args meth c) (hu0 : S 200 = (24, 0)) {r : Mem} {k56 : Mem → Option Mem}
    (hk56 : ∀ (σ : Mem)  (H : Heap) (locs : List Loc) (ls : Array Slot), St D A ad S σ s.heap H locs → lv_has ls 2 [] → k56 σ = some r → W p l e (rm_X6_sum_b qf ql) s m args below meth c H locs 0 0 (MQ below (QG D A ad S none r) args s 0 0 A) (F0 m 56 ls [])) :
    ∀ (n : Nat) (σ : Mem) (v1 : Int32) (H : Heap) (locs : List Loc) (ls : Array Slot), St D A ad S σ s.heap H locs → lv_has ls 2 [(0, .ref (ad 200)), (1, .int v1)] → f_X6_sum_b_L9 rec k56 n σ v1 = some r → W p l e (rm_X6_sum_b qf ql) s m args below meth c H locs 0 0 (MQ below (QG D A ad S none r) args s 0 0 A) (F0 m 9 ls []) := by
  have hx := Z.1
  have hb := Z.2.1
  have hown := Z.2.2.2.2.2.1
  have hts := Z.2.2.2.2.2.2.1
  intro n
  induction n with
  | zero => intro σ v1 H locs ls hS hl h; cases h
  | succ n ih =>
    intro σ v1 H locs ls hS hl h
    unfold f_X6_sum_b_L9 at h
    refine lv_aload_n hx hb dX6_sum_9 rfl (lv_at hl 0 rfl) ?_
    refine h_getI Z hS cls_14 hu0 (by decide) rfl fl_X6_223_14 dX6_sum_10 h (fun x4 h => ?_)
    refine lv_iconst (v := (-1 : Int32)) hx hb dX6_sum_13 (by decide) ?_
    refine lv_icmp_ne (tgt := 56) hx hb dX6_sum_14 (by decide) (fun c5 => ?_) (fun c5 => ?_)
    · have h := if_f h c5
      exact hk56 _ _ _ _ hS (lv_sub hl [] rfl) h
    · have h := if_t h c5
      refine lv_iload_n hx hb dX6_sum_17 rfl (lv_at hl 1 rfl) ?_
      refine lv_bipush (v := (43 : Int32)) hx hb dX6_sum_18 (by decide) ?_
      refine lv_icmp_eq (tgt := 29) hx hb dX6_sum_20 (by decide) (fun c6 => ?_) (fun c6 => ?_)
      · have h := if_t h c6
        refine lv_aload_n hx hb dX6_sum_29 rfl (lv_at hl 0 rfl) ?_
        refine lv_dup hx hb dX6_sum_30 rfl ?_
        refine h_getI Z hS cls_14 hu0 (by decide) rfl fl_X6_220_14 dX6_sum_31 h (fun x7 h => ?_)
        refine lv_iconst (v := (1 : Int32)) hx hb dX6_sum_34 (by decide) ?_
        refine lv_iadd hx hb dX6_sum_35 ?_
        refine h_putI Z hS cls_14 hu0 (by decide) rfl rfl rfl fl_X6_220_14 dX6_sum_36 h (fun σ8 H locs hS h => ?_)
        refine lv_aload_n hx hb dX6_sum_39 rfl (lv_at hl 0 rfl) ?_
        refine h_cm hS h (fun z hz => h_rV (rest := []) Z hS hu0 rfl v_X6_265 (w_X6_term_b hrec hu0 hz) rfl rfl ⟨by show qf + 3 + 1 ≤ qf + 4; omega, by show 8 + (2 + 11) + (ql + 64) ≤ ql + 85; omega⟩ rfl hl.1 rfl (Nat.le_of_ble_eq_true rfl) (Nat.zero_le _) (Nat.zero_le _) dX6_sum_40) (fun σ9 H locs hS h => ?_)
        refine lv_aload_n hx hb dX6_sum_43 rfl (lv_at hl 0 rfl) ?_
        refine lv_iload_n hx hb dX6_sum_44 rfl (lv_at hl 1 rfl) ?_
        refine h_cm hS h (fun z hz => h_rV (rest := []) Z hS hu0 rfl v_X6_242 (w_X6_say hu0 hz) rfl rfl ⟨by show 0 + 1 ≤ qf + 4; omega, by show 8 + (2 + 11) + (0) ≤ ql + 85; omega⟩ rfl hl.1 rfl (Nat.le_of_ble_eq_true rfl) (Nat.zero_le _) (Nat.zero_le _) dX6_sum_45) (fun σ10 H locs hS h => ?_)
        refine lv_aload_n hx hb dX6_sum_48 rfl (lv_at hl 0 rfl) ?_
        refine h_cim hS h (fun z hz => h_rV (rest := []) Z hS hu0 rfl v_X6_235 (w_X6_look hu0 hz) rfl rfl ⟨by show 0 + 1 ≤ qf + 4; omega, by show 8 + (1 + 11) + (0) ≤ ql + 85; omega⟩ rfl hl.1 rfl (Nat.le_of_ble_eq_true rfl) (Nat.zero_le _) (Nat.zero_le _) dX6_sum_49) (fun σ11 x12 H locs hS h => ?_)
        refine lv_istore_n (lv' := [(1, .int x12), (0, .ref (ad 200))]) hx hb dX6_sum_52 rfl hl (by decide) rfl (fun ls hl => ?_)
        refine lv_goto (tgt := 9) hx hb dX6_sum_53 (by decide) ?_
        exact ih _ _ _ _ _ hS (lv_sub hl [1, 0] rfl) h
      · have h := if_f h c6
        refine lv_iload_n hx hb dX6_sum_23 rfl (lv_at hl 1 rfl) ?_
        refine lv_bipush (v := (45 : Int32)) hx hb dX6_sum_24 (by decide) ?_
        refine lv_icmp_ne (tgt := 56) hx hb dX6_sum_26 (by decide) (fun c13 => ?_) (fun c13 => ?_)
        · have h := if_f h c13
          exact hk56 _ _ _ _ hS (lv_sub hl [] rfl) h
        · have h := if_t h c13
          refine lv_aload_n hx hb dX6_sum_29 rfl (lv_at hl 0 rfl) ?_
          refine lv_dup hx hb dX6_sum_30 rfl ?_
          refine h_getI Z hS cls_14 hu0 (by decide) rfl fl_X6_220_14 dX6_sum_31 h (fun x14 h => ?_)
          refine lv_iconst (v := (1 : Int32)) hx hb dX6_sum_34 (by decide) ?_
          refine lv_iadd hx hb dX6_sum_35 ?_
          refine h_putI Z hS cls_14 hu0 (by decide) rfl rfl rfl fl_X6_220_14 dX6_sum_36 h (fun σ15 H locs hS h => ?_)
          refine lv_aload_n hx hb dX6_sum_39 rfl (lv_at hl 0 rfl) ?_
          refine h_cm hS h (fun z hz => h_rV (rest := []) Z hS hu0 rfl v_X6_265 (w_X6_term_b hrec hu0 hz) rfl rfl ⟨by show qf + 3 + 1 ≤ qf + 4; omega, by show 8 + (2 + 11) + (ql + 64) ≤ ql + 85; omega⟩ rfl hl.1 rfl (Nat.le_of_ble_eq_true rfl) (Nat.zero_le _) (Nat.zero_le _) dX6_sum_40) (fun σ16 H locs hS h => ?_)
          refine lv_aload_n hx hb dX6_sum_43 rfl (lv_at hl 0 rfl) ?_
          refine lv_iload_n hx hb dX6_sum_44 rfl (lv_at hl 1 rfl) ?_
          refine h_cm hS h (fun z hz => h_rV (rest := []) Z hS hu0 rfl v_X6_242 (w_X6_say hu0 hz) rfl rfl ⟨by show 0 + 1 ≤ qf + 4; omega, by show 8 + (2 + 11) + (0) ≤ ql + 85; omega⟩ rfl hl.1 rfl (Nat.le_of_ble_eq_true rfl) (Nat.zero_le _) (Nat.zero_le _) dX6_sum_45) (fun σ17 H locs hS h => ?_)
          refine lv_aload_n hx hb dX6_sum_48 rfl (lv_at hl 0 rfl) ?_
          refine h_cim hS h (fun z hz => h_rV (rest := []) Z hS hu0 rfl v_X6_235 (w_X6_look hu0 hz) rfl rfl ⟨by show 0 + 1 ≤ qf + 4; omega, by show 8 + (1 + 11) + (0) ≤ ql + 85; omega⟩ rfl hl.1 rfl (Nat.le_of_ble_eq_true rfl) (Nat.zero_le _) (Nat.zero_le _) dX6_sum_49) (fun σ18 x19 H locs hS h => ?_)
          refine lv_istore_n (lv' := [(1, .int x19), (0, .ref (ad 200))]) hx hb dX6_sum_52 rfl hl (by decide) rfl (fun ls hl => ?_)
          refine lv_goto (tgt := 9) hx hb dX6_sum_53 (by decide) ?_
          exact ih _ _ _ _ _ hS (lv_sub hl [1, 0] rfl) h
set_option maxRecDepth 100000 in
set_option maxHeartbeats 4000000 in
theorem w_X6_sum_b {rec : Mem → Option Mem} {qf ql : Nat} (hrec : ∀ (σ : Mem) (r : Mem), rec σ = some r → Met l yX6_sum (ws_ yX6_sum cX6_sum 2 none) (k2_rm qf ql) (va_Pc [.ref (ad 200)] (PreG D (Ew D A) A ad S σ)) (QG D A ad S none r) 0 0 A) (hi0 : S 200 = (24, 0)) {r : Mem} (h : f_X6_sum_b rec σ = some r) : Met l yX6_sum (ws_ yX6_sum cX6_sum 2 none) (rm_X6_sum_b qf ql) (va_Pc [.ref (ad 200)] (PreG D (Ew D A) A ad S σ)) (QG D A ad S none r) 0 0 A := by
  refine y_met (by decide) (Nat.le_of_ble_eq_true rfl) (fun p e s m below meth c ls Z hS hl => ?_)
  have hx := Z.1
  have hb := Z.2.1
  have hown := Z.2.2.2.2.2.1
  have hts := Z.2.2.2.2.2.2.1
  unfold f_X6_sum_b at h
  refine lv_aload_n hx hb dX6_sum_0 rfl (lv_at hl 0 rfl) ?_
  refine h_cm hS h (fun z hz => h_rV (rest := []) Z hS hi0 rfl v_X6_265 (w_X6_term_b hrec hi0 hz) rfl rfl ⟨by show qf + 3 + 1 ≤ qf + 4; omega, by show 8 + (2 + 11) + (ql + 64) ≤ ql + 85; omega⟩ rfl hl.1 rfl (Nat.le_of_ble_eq_true rfl) (Nat.zero_le _) (Nat.zero_le _) dX6_sum_1) (fun σ1 H locs hS h => ?_)
  refine lv_aload_n hx hb dX6_sum_4 rfl (lv_at hl 0 rfl) ?_
  refine h_cim hS h (fun z hz => h_rV (rest := []) Z hS hi0 rfl v_X6_235 (w_X6_look hi0 hz) rfl rfl ⟨by show 0 + 1 ≤ qf + 4; omega, by show 8 + (1 + 11) + (0) ≤ ql + 85; omega⟩ rfl hl.1 rfl (Nat.le_of_ble_eq_true rfl) (Nat.zero_le _) (Nat.zero_le _) dX6_sum_5) (fun σ2 x3 H locs hS h => ?_)
  refine lv_istore_n (lv' := [(1, .int x3), (0, .ref (ad 200))]) hx hb dX6_sum_8 rfl hl (by decide) rfl (fun ls hl => ?_)
  refine w_X6_sum_b_L9 hrec Z hi0 (fun σ20 H locs ls hS hl h => ?_) FU _ _ _ _ _ hS (lv_sub hl [1, 0] rfl) h
  exact h_vret Z hS dX6_sum_56 h
def rmr_X6_sum : Nat → Nat × Nat
 | 0 => (0, 0)
 | d + 1 => ((rmr_X6_sum d).1 + 4, (rmr_X6_sum d).2 + 85)
theorem w_X6_sum (hi0 : S 200 = (24, 0)) : ∀ (d : Nat) (σ : Mem) (r : Mem), f_X6_sum d σ = some r → Met l yX6_sum (ws_ yX6_sum cX6_sum 2 none) (k2_rm (rmr_X6_sum d).1 (rmr_X6_sum d).2) (va_Pc [.ref (ad 200)] (PreG D (Ew D A) A ad S σ)) (QG D A ad S none r) 0 0 A := by
  intro d
  induction d with
  | zero => intro σ r h; cases h
  | succ d ih => intro σ r h; exact w_X6_sum_b (qf := (rmr_X6_sum d).1) (ql := (rmr_X6_sum d).2) ih hi0 h
end
theorem dX6_compare_0 : decode cX6_compare 0 = .ok (.aload_n 0, 1) := by decide +kernel
theorem dX6_compare_1 : decode cX6_compare 1 = .ok (.getfield 223, 3) := by decide +kernel
theorem dX6_compare_4 : decode cX6_compare 4 = .ok (.iconst (-1), 1) := by decide +kernel
theorem dX6_compare_5 : decode cX6_compare 5 = .ok (.if_icmp .ne 10, 3) := by decide +kernel
theorem dX6_compare_8 : decode cX6_compare 8 = .ok (.aload_n 0, 1) := by decide +kernel
theorem dX6_compare_9 : decode cX6_compare 9 = .ok (.invokevirtual 235, 3) := by decide +kernel
theorem dX6_compare_12 : decode cX6_compare 12 = .ok (.goto 4, 3) := by decide +kernel
theorem dX6_compare_15 : decode cX6_compare 15 = .ok (.iconst (-1), 1) := by decide +kernel
theorem dX6_compare_16 : decode cX6_compare 16 = .ok (.istore_n 1, 1) := by decide +kernel
theorem dX6_compare_17 : decode cX6_compare 17 = .ok (.iload_n 1, 1) := by decide +kernel
theorem dX6_compare_18 : decode cX6_compare 18 = .ok (.invokestatic 268, 3) := by decide +kernel
theorem dX6_compare_21 : decode cX6_compare 21 = .ok (.ifCond .ne 8, 3) := by decide +kernel
theorem dX6_compare_24 : decode cX6_compare 24 = .ok (.aload_n 0, 1) := by decide +kernel
theorem dX6_compare_25 : decode cX6_compare 25 = .ok (.invokevirtual 232, 3) := by decide +kernel
theorem dX6_compare_28 : decode cX6_compare 28 = .ok (.return_, 1) := by decide +kernel
theorem dX6_compare_29 : decode cX6_compare 29 = .ok (.aload_n 0, 1) := by decide +kernel
theorem dX6_compare_30 : decode cX6_compare 30 = .ok (.dup, 1) := by decide +kernel
theorem dX6_compare_31 : decode cX6_compare 31 = .ok (.getfield 220, 3) := by decide +kernel
theorem dX6_compare_34 : decode cX6_compare 34 = .ok (.iconst 1, 1) := by decide +kernel
theorem dX6_compare_35 : decode cX6_compare 35 = .ok (.iadd, 1) := by decide +kernel
theorem dX6_compare_36 : decode cX6_compare 36 = .ok (.putfield 220, 3) := by decide +kernel
theorem dX6_compare_39 : decode cX6_compare 39 = .ok (.aload_n 0, 1) := by decide +kernel
theorem dX6_compare_40 : decode cX6_compare 40 = .ok (.invokevirtual 250, 3) := by decide +kernel
theorem dX6_compare_43 : decode cX6_compare 43 = .ok (.aload_n 0, 1) := by decide +kernel
theorem dX6_compare_44 : decode cX6_compare 44 = .ok (.iload_n 1, 1) := by decide +kernel
theorem dX6_compare_45 : decode cX6_compare 45 = .ok (.invokevirtual 242, 3) := by decide +kernel
theorem dX6_compare_48 : decode cX6_compare 48 = .ok (.return_, 1) := by decide +kernel
abbrev rm_X6_compare : Room := k2_rm 33 701
section
variable {p : Program} {l : Launch} {e : Env} {s : State} {m : MethodId} {args : Array Value} {below : List Frame} {meth : Method} {c : Code} {D : gD} {A : Nat → Prop} {ad : Nat → Nat} {S : Nat → Nat × Nat} {σ : Mem}
set_option maxRecDepth 100000 in
set_option maxHeartbeats 4000000 in
theorem w_X6_compare (hi0 : S 200 = (24, 0)) {r : Mem} (h : f_X6_compare σ = some r) : Met l yX6_compare (ws_ yX6_compare cX6_compare 2 none) rm_X6_compare (va_Pc [.ref (ad 200)] (PreG D (Ew D A) A ad S σ)) (QG D A ad S none r) 0 0 A := by
  refine y_met (by decide) (Nat.le_of_ble_eq_true rfl) (fun p e s m below meth c ls Z hS hl => ?_)
  have hx := Z.1
  have hb := Z.2.1
  have hown := Z.2.2.2.2.2.1
  have hts := Z.2.2.2.2.2.2.1
  unfold f_X6_compare at h
  refine lv_aload_n hx hb dX6_compare_0 rfl (lv_at hl 0 rfl) ?_
  refine h_getI Z hS cls_14 hi0 (by decide) rfl fl_X6_223_14 dX6_compare_1 h (fun x1 h => ?_)
  refine lv_iconst (v := (-1 : Int32)) hx hb dX6_compare_4 (by decide) ?_
  obtain ⟨σ3, x4, hp5, h⟩ := bnd2_el h
  have K5 : ∀ (H : Heap) (locs : List Loc) (ls : Array Slot), St D A ad S σ3 s.heap H locs → lv_has ls 2 [(0, .ref (ad 200))] → W p l e rm_X6_compare s m ([.ref (ad 200)] : List Value).toArray below meth c H locs 0 0 (MQ below (QG D A ad S none r) ([.ref (ad 200)] : List Value).toArray s 0 0 A) (F0 m 16 ls [.int x4]) := by
    intro H locs ls hS hl
    refine lv_istore_n (lv' := [(1, .int x4), (0, .ref (ad 200))]) hx hb dX6_compare_16 rfl hl (by decide) rfl (fun ls hl => ?_)
    refine lv_iload_n hx hb dX6_compare_17 rfl (lv_at hl 0 rfl) ?_
    refine h_ci hS h (fun z hz => h_rS (rest := []) Z hS v_X6_268 (w_X6_isSign hz) rfl rfl ⟨by decide, by decide⟩ rfl hl.1 rfl (Nat.le_of_ble_eq_true rfl) (Nat.zero_le _) (Nat.zero_le _) dX6_compare_18) (fun x6 H locs hS h => ?_)
    refine lv_if_ne (tgt := 29) hx hb dX6_compare_21 (by decide) (fun c7 => ?_) (fun c7 => ?_)
    · have h := if_f h c7
      refine lv_aload_n hx hb dX6_compare_29 rfl (lv_at hl 1 rfl) ?_
      refine lv_dup hx hb dX6_compare_30 rfl ?_
      refine h_getI Z hS cls_14 hi0 (by decide) rfl fl_X6_220_14 dX6_compare_31 h (fun x9 h => ?_)
      refine lv_iconst (v := (1 : Int32)) hx hb dX6_compare_34 (by decide) ?_
      refine lv_iadd hx hb dX6_compare_35 ?_
      refine h_putI Z hS cls_14 hi0 (by decide) rfl rfl rfl fl_X6_220_14 dX6_compare_36 h (fun σ10 H locs hS h => ?_)
      refine lv_aload_n hx hb dX6_compare_39 rfl (lv_at hl 1 rfl) ?_
      refine h_cm hS h (fun z hz => h_rV (rest := []) Z hS hi0 rfl v_X6_250 (w_X6_sum hi0 8 _ _ hz) rfl rfl ⟨by decide, by decide⟩ rfl hl.1 rfl (Nat.le_of_ble_eq_true rfl) (Nat.zero_le _) (Nat.zero_le _) dX6_compare_40) (fun σ11 H locs hS h => ?_)
      refine lv_aload_n hx hb dX6_compare_43 rfl (lv_at hl 1 rfl) ?_
      refine lv_iload_n hx hb dX6_compare_44 rfl (lv_at hl 0 rfl) ?_
      refine h_cm hS h (fun z hz => h_rV (rest := []) Z hS hi0 rfl v_X6_242 (w_X6_say hi0 hz) rfl rfl ⟨by decide, by decide⟩ rfl hl.1 rfl (Nat.le_of_ble_eq_true rfl) (Nat.zero_le _) (Nat.zero_le _) dX6_compare_45) (fun σ12 H locs hS h => ?_)
      exact h_vret Z hS dX6_compare_48 h
    · have h := if_t h c7
      refine lv_aload_n hx hb dX6_compare_24 rfl (lv_at hl 1 rfl) ?_
      refine h_cm hS h (fun z hz => h_rV (rest := []) Z hS hi0 rfl v_X6_232 (w_X6_bad hi0 hz) rfl rfl ⟨by decide, by decide⟩ rfl hl.1 rfl (Nat.le_of_ble_eq_true rfl) (Nat.zero_le _) (Nat.zero_le _) dX6_compare_25) (fun σ8 H locs hS h => ?_)
      exact h_vret Z hS dX6_compare_28 h
  clear h
  have h := hp5
  clear hp5
  refine lv_icmp_ne (tgt := 15) hx hb dX6_compare_5 (by decide) (fun c2 => ?_) (fun c2 => ?_)
  · have h := if_f h c2
    refine lv_iconst (v := (-1 : Int32)) hx hb dX6_compare_15 (by decide) ?_
    cases h
    exact K5 _ _ _ hS (lv_sub hl [0] rfl)
  · have h := if_t h c2
    refine lv_aload_n hx hb dX6_compare_8 rfl (lv_at hl 0 rfl) ?_
    refine h_cim hS h (fun z hz => h_rV (rest := []) Z hS hi0 rfl v_X6_235 (w_X6_look hi0 hz) rfl rfl ⟨by decide, by decide⟩ rfl hl.1 rfl (Nat.le_of_ble_eq_true rfl) (Nat.zero_le _) (Nat.zero_le _) dX6_compare_9) (fun σ13 x14 H locs hS h => ?_)
    refine lv_goto (tgt := 16) hx hb dX6_compare_12 (by decide) ?_
    cases h
    exact K5 _ _ _ hS (lv_sub hl [0] rfl)
end
theorem dX6_part_0 : decode cX6_part 0 = .ok (.iload_n 1, 1) := by decide +kernel
theorem dX6_part_1 : decode cX6_part 1 = .ok (.ifCond .eq 10, 3) := by decide +kernel
theorem dX6_part_4 : decode cX6_part 4 = .ok (.aload_n 0, 1) := by decide +kernel
theorem dX6_part_5 : decode cX6_part 5 = .ok (.invokevirtual 278, 3) := by decide +kernel
theorem dX6_part_8 : decode cX6_part 8 = .ok (.goto 7, 3) := by decide +kernel
theorem dX6_part_11 : decode cX6_part 11 = .ok (.aload_n 0, 1) := by decide +kernel
theorem dX6_part_12 : decode cX6_part 12 = .ok (.invokevirtual 271, 3) := by decide +kernel
theorem dX6_part_15 : decode cX6_part 15 = .ok (.aload_n 0, 1) := by decide +kernel
theorem dX6_part_16 : decode cX6_part 16 = .ok (.getfield 223, 3) := by decide +kernel
theorem dX6_part_19 : decode cX6_part 19 = .ok (.iconst (-1), 1) := by decide +kernel
theorem dX6_part_20 : decode cX6_part 20 = .ok (.if_icmp .ne 35, 3) := by decide +kernel
theorem dX6_part_23 : decode cX6_part 23 = .ok (.aload_n 0, 1) := by decide +kernel
theorem dX6_part_24 : decode cX6_part 24 = .ok (.invokevirtual 235, 3) := by decide +kernel
theorem dX6_part_27 : decode cX6_part 27 = .ok (.bipush 38, 2) := by decide +kernel
theorem dX6_part_29 : decode cX6_part 29 = .ok (.if_icmp .ne 26, 3) := by decide +kernel
theorem dX6_part_32 : decode cX6_part 32 = .ok (.aload_n 0, 1) := by decide +kernel
theorem dX6_part_33 : decode cX6_part 33 = .ok (.dup, 1) := by decide +kernel
theorem dX6_part_34 : decode cX6_part 34 = .ok (.getfield 220, 3) := by decide +kernel
theorem dX6_part_37 : decode cX6_part 37 = .ok (.iconst 1, 1) := by decide +kernel
theorem dX6_part_38 : decode cX6_part 38 = .ok (.iadd, 1) := by decide +kernel
theorem dX6_part_39 : decode cX6_part 39 = .ok (.putfield 220, 3) := by decide +kernel
theorem dX6_part_42 : decode cX6_part 42 = .ok (.aload_n 0, 1) := by decide +kernel
theorem dX6_part_43 : decode cX6_part 43 = .ok (.invokevirtual 271, 3) := by decide +kernel
theorem dX6_part_46 : decode cX6_part 46 = .ok (.aload_n 0, 1) := by decide +kernel
theorem dX6_part_47 : decode cX6_part 47 = .ok (.bipush 38, 2) := by decide +kernel
theorem dX6_part_49 : decode cX6_part 49 = .ok (.invokevirtual 242, 3) := by decide +kernel
theorem dX6_part_52 : decode cX6_part 52 = .ok (.goto (-37), 3) := by decide +kernel
theorem dX6_part_55 : decode cX6_part 55 = .ok (.return_, 1) := by decide +kernel
abbrev rm_X6_part_b (qf ql : Nat) : Room := k2_rm (qf + 34) (ql + 722)
section
variable {p : Program} {l : Launch} {e : Env} {s : State} {m : MethodId} {args : Array Value} {below : List Frame} {meth : Method} {c : Code} {D : gD} {A : Nat → Prop} {ad : Nat → Nat} {S : Nat → Nat × Nat} {σ : Mem}
set_option maxRecDepth 100000 in
set_option maxHeartbeats 4000000 in
theorem w_X6_part_b_L15 {rec : Mem → Option Mem} {qf ql : Nat} (hrec : ∀ (σ : Mem) (r : Mem), rec σ = some r → Met l yX6_unit (ws_ yX6_unit cX6_unit 2 none) (k2_rm qf ql) (va_Pc [.ref (ad 200)] (PreG D (Ew D A) A ad S σ)) (QG D A ad S none r) 0 0 A) (Z : Cz D (Ew D A) A cX6_part 2 none RX6 p s m args meth c) (hu0 : S 200 = (24, 0)) {r : Mem} {k55 : Mem → Option Mem}
    (hk55 : ∀ (σ : Mem)  (H : Heap) (locs : List Loc) (ls : Array Slot), St D A ad S σ s.heap H locs → lv_has ls 2 [] → k55 σ = some r → W p l e (rm_X6_part_b qf ql) s m args below meth c H locs 0 0 (MQ below (QG D A ad S none r) args s 0 0 A) (F0 m 55 ls [])) :
    ∀ (n : Nat) (σ : Mem)  (H : Heap) (locs : List Loc) (ls : Array Slot), St D A ad S σ s.heap H locs → lv_has ls 2 [(0, .ref (ad 200))] → f_X6_part_b_L15 rec k55 n σ = some r → W p l e (rm_X6_part_b qf ql) s m args below meth c H locs 0 0 (MQ below (QG D A ad S none r) args s 0 0 A) (F0 m 15 ls []) := by
  have hx := Z.1
  have hb := Z.2.1
  have hown := Z.2.2.2.2.2.1
  have hts := Z.2.2.2.2.2.2.1
  intro n
  induction n with
  | zero => intro σ H locs ls hS hl h; cases h
  | succ n ih =>
    intro σ H locs ls hS hl h
    unfold f_X6_part_b_L15 at h
    refine lv_aload_n hx hb dX6_part_15 rfl (lv_at hl 0 rfl) ?_
    refine h_getI Z hS cls_14 hu0 (by decide) rfl fl_X6_223_14 dX6_part_16 h (fun x4 h => ?_)
    refine lv_iconst (v := (-1 : Int32)) hx hb dX6_part_19 (by decide) ?_
    refine lv_icmp_ne (tgt := 55) hx hb dX6_part_20 (by decide) (fun c5 => ?_) (fun c5 => ?_)
    · have h := if_f h c5
      exact hk55 _ _ _ _ hS (lv_sub hl [] rfl) h
    · have h := if_t h c5
      refine lv_aload_n hx hb dX6_part_23 rfl (lv_at hl 0 rfl) ?_
      refine h_cim hS h (fun z hz => h_rV (rest := []) Z hS hu0 rfl v_X6_235 (w_X6_look hu0 hz) rfl rfl ⟨by show 0 + 1 ≤ qf + 34; omega, by show 8 + (1 + 11) + (0) ≤ ql + 722; omega⟩ rfl hl.1 rfl (Nat.le_of_ble_eq_true rfl) (Nat.zero_le _) (Nat.zero_le _) dX6_part_24) (fun σ6 x7 H locs hS h => ?_)
      refine lv_bipush (v := (38 : Int32)) hx hb dX6_part_27 (by decide) ?_
      refine lv_icmp_ne (tgt := 55) hx hb dX6_part_29 (by decide) (fun c8 => ?_) (fun c8 => ?_)
      · have h := if_f h c8
        exact hk55 _ _ _ _ hS (lv_sub hl [] rfl) h
      · have h := if_t h c8
        refine lv_aload_n hx hb dX6_part_32 rfl (lv_at hl 0 rfl) ?_
        refine lv_dup hx hb dX6_part_33 rfl ?_
        refine h_getI Z hS cls_14 hu0 (by decide) rfl fl_X6_220_14 dX6_part_34 h (fun x9 h => ?_)
        refine lv_iconst (v := (1 : Int32)) hx hb dX6_part_37 (by decide) ?_
        refine lv_iadd hx hb dX6_part_38 ?_
        refine h_putI Z hS cls_14 hu0 (by decide) rfl rfl rfl fl_X6_220_14 dX6_part_39 h (fun σ10 H locs hS h => ?_)
        refine lv_aload_n hx hb dX6_part_42 rfl (lv_at hl 0 rfl) ?_
        refine h_cm hS h (fun z hz => h_rV (rest := []) Z hS hu0 rfl v_X6_271 (hrec _ _ hz) rfl rfl ⟨by show qf + 0 + 1 ≤ qf + 34; omega, by show 8 + (2 + 11) + (ql + 0) ≤ ql + 722; omega⟩ rfl hl.1 rfl (Nat.le_of_ble_eq_true rfl) (Nat.zero_le _) (Nat.zero_le _) dX6_part_43) (fun σ11 H locs hS h => ?_)
        refine lv_aload_n hx hb dX6_part_46 rfl (lv_at hl 0 rfl) ?_
        refine lv_bipush (v := (38 : Int32)) hx hb dX6_part_47 (by decide) ?_
        refine h_cm hS h (fun z hz => h_rV (rest := []) Z hS hu0 rfl v_X6_242 (w_X6_say hu0 hz) rfl rfl ⟨by show 0 + 1 ≤ qf + 34; omega, by show 8 + (2 + 11) + (0) ≤ ql + 722; omega⟩ rfl hl.1 rfl (Nat.le_of_ble_eq_true rfl) (Nat.zero_le _) (Nat.zero_le _) dX6_part_49) (fun σ12 H locs hS h => ?_)
        refine lv_goto (tgt := 15) hx hb dX6_part_52 (by decide) ?_
        exact ih _ _ _ _ hS (lv_sub hl [0] rfl) h
set_option maxRecDepth 100000 in
set_option maxHeartbeats 4000000 in
theorem w_X6_part_b {rec : Mem → Option Mem} {qf ql : Nat} (hrec : ∀ (σ : Mem) (r : Mem), rec σ = some r → Met l yX6_unit (ws_ yX6_unit cX6_unit 2 none) (k2_rm qf ql) (va_Pc [.ref (ad 200)] (PreG D (Ew D A) A ad S σ)) (QG D A ad S none r) 0 0 A) {a1 : Int32} (hi0 : S 200 = (24, 0)) {r : Mem} (h : f_X6_part_b rec σ a1 = some r) : Met l yX6_part (ws_ yX6_part cX6_part 2 none) (rm_X6_part_b qf ql) (va_Pc [.ref (ad 200), .int a1] (PreG D (Ew D A) A ad S σ)) (QG D A ad S none r) 0 0 A := by
  refine y_met (by decide) (Nat.le_of_ble_eq_true rfl) (fun p e s m below meth c ls Z hS hl => ?_)
  have hx := Z.1
  have hb := Z.2.1
  have hown := Z.2.2.2.2.2.1
  have hts := Z.2.2.2.2.2.2.1
  unfold f_X6_part_b at h
  refine lv_iload_n hx hb dX6_part_0 rfl (lv_at hl 1 rfl) ?_
  obtain ⟨σ2, hp3, h⟩ := bnd_el h
  have K3 : ∀ (H : Heap) (locs : List Loc) (ls : Array Slot), St D A ad S σ2 s.heap H locs → lv_has ls 2 [(0, .ref (ad 200))] → W p l e (rm_X6_part_b qf ql) s m ([.ref (ad 200), .int a1] : List Value).toArray below meth c H locs 0 0 (MQ below (QG D A ad S none r) ([.ref (ad 200), .int a1] : List Value).toArray s 0 0 A) (F0 m 15 ls []) := by
    intro H locs ls hS hl
    refine w_X6_part_b_L15 hrec Z hi0 (fun σ13 H locs ls hS hl h => ?_) FU _ _ _ _ hS (lv_sub hl [0] rfl) h
    exact h_vret Z hS dX6_part_55 h
  clear h
  have h := hp3
  clear hp3
  refine lv_if_eq (tgt := 11) hx hb dX6_part_1 (by decide) (fun c1 => ?_) (fun c1 => ?_)
  · have h := if_t h c1
    refine lv_aload_n hx hb dX6_part_11 rfl (lv_at hl 0 rfl) ?_
    refine h_cm hS h (fun z hz => h_rV (rest := []) Z hS hi0 rfl v_X6_271 (hrec _ _ hz) rfl rfl ⟨by show qf + 0 + 1 ≤ qf + 34; omega, by show 8 + (2 + 11) + (ql + 0) ≤ ql + 722; omega⟩ rfl hl.1 rfl (Nat.le_of_ble_eq_true rfl) (Nat.zero_le _) (Nat.zero_le _) dX6_part_12) (fun σ14 H locs hS h => ?_)
    cases h
    exact K3 _ _ _ hS (lv_sub hl [0] rfl)
  · have h := if_f h c1
    refine lv_aload_n hx hb dX6_part_4 rfl (lv_at hl 0 rfl) ?_
    refine h_cm hS h (fun z hz => h_rV (rest := []) Z hS hi0 rfl v_X6_278 (w_X6_compare hi0 hz) rfl rfl ⟨by show 33 + 1 ≤ qf + 34; omega, by show 8 + (2 + 11) + (701) ≤ ql + 722; omega⟩ rfl hl.1 rfl (Nat.le_of_ble_eq_true rfl) (Nat.zero_le _) (Nat.zero_le _) dX6_part_5) (fun σ15 H locs hS h => ?_)
    refine lv_goto (tgt := 15) hx hb dX6_part_8 (by decide) ?_
    cases h
    exact K3 _ _ _ hS (lv_sub hl [0] rfl)
end
theorem dX6_condition_0 : decode cX6_condition 0 = .ok (.aload_n 0, 1) := by decide +kernel
theorem dX6_condition_1 : decode cX6_condition 1 = .ok (.iload_n 1, 1) := by decide +kernel
theorem dX6_condition_2 : decode cX6_condition 2 = .ok (.invokevirtual 281, 3) := by decide +kernel
theorem dX6_condition_5 : decode cX6_condition 5 = .ok (.aload_n 0, 1) := by decide +kernel
theorem dX6_condition_6 : decode cX6_condition 6 = .ok (.getfield 223, 3) := by decide +kernel
theorem dX6_condition_9 : decode cX6_condition 9 = .ok (.iconst (-1), 1) := by decide +kernel
theorem dX6_condition_10 : decode cX6_condition 10 = .ok (.if_icmp .ne 36, 3) := by decide +kernel
theorem dX6_condition_13 : decode cX6_condition 13 = .ok (.aload_n 0, 1) := by decide +kernel
theorem dX6_condition_14 : decode cX6_condition 14 = .ok (.invokevirtual 235, 3) := by decide +kernel
theorem dX6_condition_17 : decode cX6_condition 17 = .ok (.bipush 124, 2) := by decide +kernel
theorem dX6_condition_19 : decode cX6_condition 19 = .ok (.if_icmp .ne 27, 3) := by decide +kernel
theorem dX6_condition_22 : decode cX6_condition 22 = .ok (.aload_n 0, 1) := by decide +kernel
theorem dX6_condition_23 : decode cX6_condition 23 = .ok (.dup, 1) := by decide +kernel
theorem dX6_condition_24 : decode cX6_condition 24 = .ok (.getfield 220, 3) := by decide +kernel
theorem dX6_condition_27 : decode cX6_condition 27 = .ok (.iconst 1, 1) := by decide +kernel
theorem dX6_condition_28 : decode cX6_condition 28 = .ok (.iadd, 1) := by decide +kernel
theorem dX6_condition_29 : decode cX6_condition 29 = .ok (.putfield 220, 3) := by decide +kernel
theorem dX6_condition_32 : decode cX6_condition 32 = .ok (.aload_n 0, 1) := by decide +kernel
theorem dX6_condition_33 : decode cX6_condition 33 = .ok (.iconst 0, 1) := by decide +kernel
theorem dX6_condition_34 : decode cX6_condition 34 = .ok (.invokevirtual 281, 3) := by decide +kernel
theorem dX6_condition_37 : decode cX6_condition 37 = .ok (.aload_n 0, 1) := by decide +kernel
theorem dX6_condition_38 : decode cX6_condition 38 = .ok (.bipush 124, 2) := by decide +kernel
theorem dX6_condition_40 : decode cX6_condition 40 = .ok (.invokevirtual 242, 3) := by decide +kernel
theorem dX6_condition_43 : decode cX6_condition 43 = .ok (.goto (-38), 3) := by decide +kernel
theorem dX6_condition_46 : decode cX6_condition 46 = .ok (.return_, 1) := by decide +kernel
abbrev rm_X6_condition_b (qf ql : Nat) : Room := k2_rm (qf + 35) (ql + 743)
section
variable {p : Program} {l : Launch} {e : Env} {s : State} {m : MethodId} {args : Array Value} {below : List Frame} {meth : Method} {c : Code} {D : gD} {A : Nat → Prop} {ad : Nat → Nat} {S : Nat → Nat × Nat} {σ : Mem}
set_option maxRecDepth 100000 in
set_option maxHeartbeats 4000000 in
theorem w_X6_condition_b_L5 {rec : Mem → Option Mem} {qf ql : Nat} (hrec : ∀ (σ : Mem) (r : Mem), rec σ = some r → Met l yX6_unit (ws_ yX6_unit cX6_unit 2 none) (k2_rm qf ql) (va_Pc [.ref (ad 200)] (PreG D (Ew D A) A ad S σ)) (QG D A ad S none r) 0 0 A) (Z : Cz D (Ew D A) A cX6_condition 2 none RX6 p s m args meth c) (hu0 : S 200 = (24, 0)) {r : Mem} {k46 : Mem → Option Mem}
    (hk46 : ∀ (σ : Mem)  (H : Heap) (locs : List Loc) (ls : Array Slot), St D A ad S σ s.heap H locs → lv_has ls 2 [] → k46 σ = some r → W p l e (rm_X6_condition_b qf ql) s m args below meth c H locs 0 0 (MQ below (QG D A ad S none r) args s 0 0 A) (F0 m 46 ls [])) :
    ∀ (n : Nat) (σ : Mem)  (H : Heap) (locs : List Loc) (ls : Array Slot), St D A ad S σ s.heap H locs → lv_has ls 2 [(0, .ref (ad 200))] → f_X6_condition_b_L5 rec k46 n σ = some r → W p l e (rm_X6_condition_b qf ql) s m args below meth c H locs 0 0 (MQ below (QG D A ad S none r) args s 0 0 A) (F0 m 5 ls []) := by
  have hx := Z.1
  have hb := Z.2.1
  have hown := Z.2.2.2.2.2.1
  have hts := Z.2.2.2.2.2.2.1
  intro n
  induction n with
  | zero => intro σ H locs ls hS hl h; cases h
  | succ n ih =>
    intro σ H locs ls hS hl h
    unfold f_X6_condition_b_L5 at h
    refine lv_aload_n hx hb dX6_condition_5 rfl (lv_at hl 0 rfl) ?_
    refine h_getI Z hS cls_14 hu0 (by decide) rfl fl_X6_223_14 dX6_condition_6 h (fun x2 h => ?_)
    refine lv_iconst (v := (-1 : Int32)) hx hb dX6_condition_9 (by decide) ?_
    refine lv_icmp_ne (tgt := 46) hx hb dX6_condition_10 (by decide) (fun c3 => ?_) (fun c3 => ?_)
    · have h := if_f h c3
      exact hk46 _ _ _ _ hS (lv_sub hl [] rfl) h
    · have h := if_t h c3
      refine lv_aload_n hx hb dX6_condition_13 rfl (lv_at hl 0 rfl) ?_
      refine h_cim hS h (fun z hz => h_rV (rest := []) Z hS hu0 rfl v_X6_235 (w_X6_look hu0 hz) rfl rfl ⟨by show 0 + 1 ≤ qf + 35; omega, by show 8 + (1 + 11) + (0) ≤ ql + 743; omega⟩ rfl hl.1 rfl (Nat.le_of_ble_eq_true rfl) (Nat.zero_le _) (Nat.zero_le _) dX6_condition_14) (fun σ4 x5 H locs hS h => ?_)
      refine lv_bipush (v := (124 : Int32)) hx hb dX6_condition_17 (by decide) ?_
      refine lv_icmp_ne (tgt := 46) hx hb dX6_condition_19 (by decide) (fun c6 => ?_) (fun c6 => ?_)
      · have h := if_f h c6
        exact hk46 _ _ _ _ hS (lv_sub hl [] rfl) h
      · have h := if_t h c6
        refine lv_aload_n hx hb dX6_condition_22 rfl (lv_at hl 0 rfl) ?_
        refine lv_dup hx hb dX6_condition_23 rfl ?_
        refine h_getI Z hS cls_14 hu0 (by decide) rfl fl_X6_220_14 dX6_condition_24 h (fun x7 h => ?_)
        refine lv_iconst (v := (1 : Int32)) hx hb dX6_condition_27 (by decide) ?_
        refine lv_iadd hx hb dX6_condition_28 ?_
        refine h_putI Z hS cls_14 hu0 (by decide) rfl rfl rfl fl_X6_220_14 dX6_condition_29 h (fun σ8 H locs hS h => ?_)
        refine lv_aload_n hx hb dX6_condition_32 rfl (lv_at hl 0 rfl) ?_
        refine lv_iconst (v := (0 : Int32)) hx hb dX6_condition_33 (by decide) ?_
        refine h_cm hS h (fun z hz => h_rV (rest := []) Z hS hu0 rfl v_X6_281 (w_X6_part_b hrec hu0 hz) rfl rfl ⟨by show qf + 34 + 1 ≤ qf + 35; omega, by show 8 + (2 + 11) + (ql + 722) ≤ ql + 743; omega⟩ rfl hl.1 rfl (Nat.le_of_ble_eq_true rfl) (Nat.zero_le _) (Nat.zero_le _) dX6_condition_34) (fun σ9 H locs hS h => ?_)
        refine lv_aload_n hx hb dX6_condition_37 rfl (lv_at hl 0 rfl) ?_
        refine lv_bipush (v := (124 : Int32)) hx hb dX6_condition_38 (by decide) ?_
        refine h_cm hS h (fun z hz => h_rV (rest := []) Z hS hu0 rfl v_X6_242 (w_X6_say hu0 hz) rfl rfl ⟨by show 0 + 1 ≤ qf + 35; omega, by show 8 + (2 + 11) + (0) ≤ ql + 743; omega⟩ rfl hl.1 rfl (Nat.le_of_ble_eq_true rfl) (Nat.zero_le _) (Nat.zero_le _) dX6_condition_40) (fun σ10 H locs hS h => ?_)
        refine lv_goto (tgt := 5) hx hb dX6_condition_43 (by decide) ?_
        exact ih _ _ _ _ hS (lv_sub hl [0] rfl) h
set_option maxRecDepth 100000 in
set_option maxHeartbeats 4000000 in
theorem w_X6_condition_b {rec : Mem → Option Mem} {qf ql : Nat} (hrec : ∀ (σ : Mem) (r : Mem), rec σ = some r → Met l yX6_unit (ws_ yX6_unit cX6_unit 2 none) (k2_rm qf ql) (va_Pc [.ref (ad 200)] (PreG D (Ew D A) A ad S σ)) (QG D A ad S none r) 0 0 A) {a1 : Int32} (hi0 : S 200 = (24, 0)) {r : Mem} (h : f_X6_condition_b rec σ a1 = some r) : Met l yX6_condition (ws_ yX6_condition cX6_condition 2 none) (rm_X6_condition_b qf ql) (va_Pc [.ref (ad 200), .int a1] (PreG D (Ew D A) A ad S σ)) (QG D A ad S none r) 0 0 A := by
  refine y_met (by decide) (Nat.le_of_ble_eq_true rfl) (fun p e s m below meth c ls Z hS hl => ?_)
  have hx := Z.1
  have hb := Z.2.1
  have hown := Z.2.2.2.2.2.1
  have hts := Z.2.2.2.2.2.2.1
  unfold f_X6_condition_b at h
  refine lv_aload_n hx hb dX6_condition_0 rfl (lv_at hl 0 rfl) ?_
  refine lv_iload_n hx hb dX6_condition_1 rfl (lv_at hl 1 rfl) ?_
  refine h_cm hS h (fun z hz => h_rV (rest := []) Z hS hi0 rfl v_X6_281 (w_X6_part_b hrec hi0 hz) rfl rfl ⟨by show qf + 34 + 1 ≤ qf + 35; omega, by show 8 + (2 + 11) + (ql + 722) ≤ ql + 743; omega⟩ rfl hl.1 rfl (Nat.le_of_ble_eq_true rfl) (Nat.zero_le _) (Nat.zero_le _) dX6_condition_2) (fun σ1 H locs hS h => ?_)
  refine w_X6_condition_b_L5 hrec Z hi0 (fun σ11 H locs ls hS hl h => ?_) FU _ _ _ _ hS (lv_sub hl [0] rfl) h
  exact h_vret Z hS dX6_condition_46 h
end
theorem dX6_unit_0 : decode cX6_unit 0 = .ok (.aload_n 0, 1) := by decide +kernel
theorem dX6_unit_1 : decode cX6_unit 1 = .ok (.invokevirtual 235, 3) := by decide +kernel
theorem dX6_unit_4 : decode cX6_unit 4 = .ok (.istore_n 1, 1) := by decide +kernel
theorem dX6_unit_5 : decode cX6_unit 5 = .ok (.iload_n 1, 1) := by decide +kernel
theorem dX6_unit_6 : decode cX6_unit 6 = .ok (.bipush 33, 2) := by decide +kernel
theorem dX6_unit_8 : decode cX6_unit 8 = .ok (.if_icmp .ne 33, 3) := by decide +kernel
theorem dX6_unit_11 : decode cX6_unit 11 = .ok (.aload_n 0, 1) := by decide +kernel
theorem dX6_unit_12 : decode cX6_unit 12 = .ok (.invokevirtual 246, 3) := by decide +kernel
theorem dX6_unit_15 : decode cX6_unit 15 = .ok (.ifCond .eq 61, 3) := by decide +kernel
theorem dX6_unit_18 : decode cX6_unit 18 = .ok (.aload_n 0, 1) := by decide +kernel
theorem dX6_unit_19 : decode cX6_unit 19 = .ok (.invokevirtual 271, 3) := by decide +kernel
theorem dX6_unit_22 : decode cX6_unit 22 = .ok (.aload_n 0, 1) := by decide +kernel
theorem dX6_unit_23 : decode cX6_unit 23 = .ok (.dup, 1) := by decide +kernel
theorem dX6_unit_24 : decode cX6_unit 24 = .ok (.getfield 229, 3) := by decide +kernel
theorem dX6_unit_27 : decode cX6_unit 27 = .ok (.iconst 1, 1) := by decide +kernel
theorem dX6_unit_28 : decode cX6_unit 28 = .ok (.isub, 1) := by decide +kernel
theorem dX6_unit_29 : decode cX6_unit 29 = .ok (.putfield 229, 3) := by decide +kernel
theorem dX6_unit_32 : decode cX6_unit 32 = .ok (.aload_n 0, 1) := by decide +kernel
theorem dX6_unit_33 : decode cX6_unit 33 = .ok (.bipush 33, 2) := by decide +kernel
theorem dX6_unit_35 : decode cX6_unit 35 = .ok (.invokevirtual 242, 3) := by decide +kernel
theorem dX6_unit_38 : decode cX6_unit 38 = .ok (.goto 38, 3) := by decide +kernel
theorem dX6_unit_41 : decode cX6_unit 41 = .ok (.iload_n 1, 1) := by decide +kernel
theorem dX6_unit_42 : decode cX6_unit 42 = .ok (.bipush 40, 2) := by decide +kernel
theorem dX6_unit_44 : decode cX6_unit 44 = .ok (.if_icmp .ne 24, 3) := by decide +kernel
theorem dX6_unit_47 : decode cX6_unit 47 = .ok (.aload_n 0, 1) := by decide +kernel
theorem dX6_unit_48 : decode cX6_unit 48 = .ok (.invokevirtual 246, 3) := by decide +kernel
theorem dX6_unit_51 : decode cX6_unit 51 = .ok (.ifCond .eq 25, 3) := by decide +kernel
theorem dX6_unit_54 : decode cX6_unit 54 = .ok (.aload_n 0, 1) := by decide +kernel
theorem dX6_unit_55 : decode cX6_unit 55 = .ok (.iconst 0, 1) := by decide +kernel
theorem dX6_unit_56 : decode cX6_unit 56 = .ok (.invokevirtual 274, 3) := by decide +kernel
theorem dX6_unit_59 : decode cX6_unit 59 = .ok (.aload_n 0, 1) := by decide +kernel
theorem dX6_unit_60 : decode cX6_unit 60 = .ok (.bipush 41, 2) := by decide +kernel
theorem dX6_unit_62 : decode cX6_unit 62 = .ok (.invokevirtual 253, 3) := by decide +kernel
theorem dX6_unit_65 : decode cX6_unit 65 = .ok (.goto 11, 3) := by decide +kernel
theorem dX6_unit_68 : decode cX6_unit 68 = .ok (.aload_n 0, 1) := by decide +kernel
theorem dX6_unit_69 : decode cX6_unit 69 = .ok (.invokevirtual 250, 3) := by decide +kernel
theorem dX6_unit_72 : decode cX6_unit 72 = .ok (.aload_n 0, 1) := by decide +kernel
theorem dX6_unit_73 : decode cX6_unit 73 = .ok (.invokevirtual 278, 3) := by decide +kernel
theorem dX6_unit_76 : decode cX6_unit 76 = .ok (.return_, 1) := by decide +kernel
abbrev rm_X6_unit_b (qf ql : Nat) : Room := k2_rm (qf + 36) (ql + 764)
section
variable {p : Program} {l : Launch} {e : Env} {s : State} {m : MethodId} {args : Array Value} {below : List Frame} {meth : Method} {c : Code} {D : gD} {A : Nat → Prop} {ad : Nat → Nat} {S : Nat → Nat × Nat} {σ : Mem}
set_option maxRecDepth 100000 in
set_option maxHeartbeats 4000000 in
theorem w_X6_unit_b {rec : Mem → Option Mem} {qf ql : Nat} (hrec : ∀ (σ : Mem) (r : Mem), rec σ = some r → Met l yX6_unit (ws_ yX6_unit cX6_unit 2 none) (k2_rm qf ql) (va_Pc [.ref (ad 200)] (PreG D (Ew D A) A ad S σ)) (QG D A ad S none r) 0 0 A) (hi0 : S 200 = (24, 0)) {r : Mem} (h : f_X6_unit_b rec σ = some r) : Met l yX6_unit (ws_ yX6_unit cX6_unit 2 none) (rm_X6_unit_b qf ql) (va_Pc [.ref (ad 200)] (PreG D (Ew D A) A ad S σ)) (QG D A ad S none r) 0 0 A := by
  refine y_met (by decide) (Nat.le_of_ble_eq_true rfl) (fun p e s m below meth c ls Z hS hl => ?_)
  have hx := Z.1
  have hb := Z.2.1
  have hown := Z.2.2.2.2.2.1
  have hts := Z.2.2.2.2.2.2.1
  unfold f_X6_unit_b at h
  refine lv_aload_n hx hb dX6_unit_0 rfl (lv_at hl 0 rfl) ?_
  refine h_cim hS h (fun z hz => h_rV (rest := []) Z hS hi0 rfl v_X6_235 (w_X6_look hi0 hz) rfl rfl ⟨by show 0 + 1 ≤ qf + 36; omega, by show 8 + (1 + 11) + (0) ≤ ql + 764; omega⟩ rfl hl.1 rfl (Nat.le_of_ble_eq_true rfl) (Nat.zero_le _) (Nat.zero_le _) dX6_unit_1) (fun σ1 x2 H locs hS h => ?_)
  refine lv_istore_n (lv' := [(1, .int x2), (0, .ref (ad 200))]) hx hb dX6_unit_4 rfl hl (by decide) rfl (fun ls hl => ?_)
  refine lv_iload_n hx hb dX6_unit_5 rfl (lv_at hl 0 rfl) ?_
  refine lv_bipush (v := (33 : Int32)) hx hb dX6_unit_6 (by decide) ?_
  refine lv_icmp_ne (tgt := 41) hx hb dX6_unit_8 (by decide) (fun c3 => ?_) (fun c3 => ?_)
  · have h := if_f h c3
    refine lv_iload_n hx hb dX6_unit_41 rfl (lv_at hl 0 rfl) ?_
    refine lv_bipush (v := (40 : Int32)) hx hb dX6_unit_42 (by decide) ?_
    refine lv_icmp_ne (tgt := 68) hx hb dX6_unit_44 (by decide) (fun c11 => ?_) (fun c11 => ?_)
    · have h := if_f h c11
      refine lv_aload_n hx hb dX6_unit_68 rfl (lv_at hl 1 rfl) ?_
      refine h_cm hS h (fun z hz => h_rV (rest := []) Z hS hi0 rfl v_X6_250 (w_X6_sum hi0 8 _ _ hz) rfl rfl ⟨by show 32 + 1 ≤ qf + 36; omega, by show 8 + (2 + 11) + (680) ≤ ql + 764; omega⟩ rfl hl.1 rfl (Nat.le_of_ble_eq_true rfl) (Nat.zero_le _) (Nat.zero_le _) dX6_unit_69) (fun σ17 H locs hS h => ?_)
      refine lv_aload_n hx hb dX6_unit_72 rfl (lv_at hl 1 rfl) ?_
      refine h_cm hS h (fun z hz => h_rV (rest := []) Z hS hi0 rfl v_X6_278 (w_X6_compare hi0 hz) rfl rfl ⟨by show 33 + 1 ≤ qf + 36; omega, by show 8 + (2 + 11) + (701) ≤ ql + 764; omega⟩ rfl hl.1 rfl (Nat.le_of_ble_eq_true rfl) (Nat.zero_le _) (Nat.zero_le _) dX6_unit_73) (fun σ18 H locs hS h => ?_)
      exact h_vret Z hS dX6_unit_76 h
    · have h := if_t h c11
      refine lv_aload_n hx hb dX6_unit_47 rfl (lv_at hl 1 rfl) ?_
      refine h_cim hS h (fun z hz => h_rV (rest := []) Z hS hi0 rfl v_X6_246 (w_X6_opens hi0 hz) rfl rfl ⟨by show 1 + 1 ≤ qf + 36; omega, by show 8 + (1 + 11) + (20) ≤ ql + 764; omega⟩ rfl hl.1 rfl (Nat.le_of_ble_eq_true rfl) (Nat.zero_le _) (Nat.zero_le _) dX6_unit_48) (fun σ12 x13 H locs hS h => ?_)
      refine lv_if_eq (tgt := 76) hx hb dX6_unit_51 (by decide) (fun c14 => ?_) (fun c14 => ?_)
      · have h := if_t h c14
        exact h_vret Z hS dX6_unit_76 h
      · have h := if_f h c14
        refine lv_aload_n hx hb dX6_unit_54 rfl (lv_at hl 1 rfl) ?_
        refine lv_iconst (v := (0 : Int32)) hx hb dX6_unit_55 (by decide) ?_
        refine h_cm hS h (fun z hz => h_rV (rest := []) Z hS hi0 rfl v_X6_274 (w_X6_condition_b hrec hi0 hz) rfl rfl ⟨by show qf + 35 + 1 ≤ qf + 36; omega, by show 8 + (2 + 11) + (ql + 743) ≤ ql + 764; omega⟩ rfl hl.1 rfl (Nat.le_of_ble_eq_true rfl) (Nat.zero_le _) (Nat.zero_le _) dX6_unit_56) (fun σ15 H locs hS h => ?_)
        refine lv_aload_n hx hb dX6_unit_59 rfl (lv_at hl 1 rfl) ?_
        refine lv_bipush (v := (41 : Int32)) hx hb dX6_unit_60 (by decide) ?_
        refine h_cm hS h (fun z hz => h_rV (rest := []) Z hS hi0 rfl v_X6_253 (w_X6_closes hi0 hz) rfl rfl ⟨by show 1 + 1 ≤ qf + 36; omega, by show 8 + (2 + 11) + (20) ≤ ql + 764; omega⟩ rfl hl.1 rfl (Nat.le_of_ble_eq_true rfl) (Nat.zero_le _) (Nat.zero_le _) dX6_unit_62) (fun σ16 H locs hS h => ?_)
        refine lv_goto (tgt := 76) hx hb dX6_unit_65 (by decide) ?_
        exact h_vret Z hS dX6_unit_76 h
  · have h := if_t h c3
    refine lv_aload_n hx hb dX6_unit_11 rfl (lv_at hl 1 rfl) ?_
    refine h_cim hS h (fun z hz => h_rV (rest := []) Z hS hi0 rfl v_X6_246 (w_X6_opens hi0 hz) rfl rfl ⟨by show 1 + 1 ≤ qf + 36; omega, by show 8 + (1 + 11) + (20) ≤ ql + 764; omega⟩ rfl hl.1 rfl (Nat.le_of_ble_eq_true rfl) (Nat.zero_le _) (Nat.zero_le _) dX6_unit_12) (fun σ4 x5 H locs hS h => ?_)
    refine lv_if_eq (tgt := 76) hx hb dX6_unit_15 (by decide) (fun c6 => ?_) (fun c6 => ?_)
    · have h := if_t h c6
      exact h_vret Z hS dX6_unit_76 h
    · have h := if_f h c6
      refine lv_aload_n hx hb dX6_unit_18 rfl (lv_at hl 1 rfl) ?_
      refine h_cm hS h (fun z hz => h_rV (rest := []) Z hS hi0 rfl v_X6_271 (hrec _ _ hz) rfl rfl ⟨by show qf + 0 + 1 ≤ qf + 36; omega, by show 8 + (2 + 11) + (ql + 0) ≤ ql + 764; omega⟩ rfl hl.1 rfl (Nat.le_of_ble_eq_true rfl) (Nat.zero_le _) (Nat.zero_le _) dX6_unit_19) (fun σ7 H locs hS h => ?_)
      refine lv_aload_n hx hb dX6_unit_22 rfl (lv_at hl 1 rfl) ?_
      refine lv_dup hx hb dX6_unit_23 rfl ?_
      refine h_getI Z hS cls_14 hi0 (by decide) rfl fl_X6_229_14 dX6_unit_24 h (fun x8 h => ?_)
      refine lv_iconst (v := (1 : Int32)) hx hb dX6_unit_27 (by decide) ?_
      refine lv_isub hx hb dX6_unit_28 ?_
      refine h_putI Z hS cls_14 hi0 (by decide) rfl rfl rfl fl_X6_229_14 dX6_unit_29 h (fun σ9 H locs hS h => ?_)
      refine lv_aload_n hx hb dX6_unit_32 rfl (lv_at hl 1 rfl) ?_
      refine lv_bipush (v := (33 : Int32)) hx hb dX6_unit_33 (by decide) ?_
      refine h_cm hS h (fun z hz => h_rV (rest := []) Z hS hi0 rfl v_X6_242 (w_X6_say hi0 hz) rfl rfl ⟨by show 0 + 1 ≤ qf + 36; omega, by show 8 + (2 + 11) + (0) ≤ ql + 764; omega⟩ rfl hl.1 rfl (Nat.le_of_ble_eq_true rfl) (Nat.zero_le _) (Nat.zero_le _) dX6_unit_35) (fun σ10 H locs hS h => ?_)
      refine lv_goto (tgt := 76) hx hb dX6_unit_38 (by decide) ?_
      exact h_vret Z hS dX6_unit_76 h
def rmr_X6_unit : Nat → Nat × Nat
 | 0 => (0, 0)
 | d + 1 => ((rmr_X6_unit d).1 + 36, (rmr_X6_unit d).2 + 764)
theorem w_X6_unit (hi0 : S 200 = (24, 0)) : ∀ (d : Nat) (σ : Mem) (r : Mem), f_X6_unit d σ = some r → Met l yX6_unit (ws_ yX6_unit cX6_unit 2 none) (k2_rm (rmr_X6_unit d).1 (rmr_X6_unit d).2) (va_Pc [.ref (ad 200)] (PreG D (Ew D A) A ad S σ)) (QG D A ad S none r) 0 0 A := by
  intro d
  induction d with
  | zero => intro σ r h; cases h
  | succ d ih => intro σ r h; exact w_X6_unit_b (qf := (rmr_X6_unit d).1) (ql := (rmr_X6_unit d).2) ih hi0 h
end
theorem dX6_clause_0 : decode cX6_clause 0 = .ok (.aload_n 0, 1) := by decide +kernel
theorem dX6_clause_1 : decode cX6_clause 1 = .ok (.invokevirtual 235, 3) := by decide +kernel
theorem dX6_clause_4 : decode cX6_clause 4 = .ok (.istore_n 1, 1) := by decide +kernel
theorem dX6_clause_5 : decode cX6_clause 5 = .ok (.iload_n 1, 1) := by decide +kernel
theorem dX6_clause_6 : decode cX6_clause 6 = .ok (.invokestatic 284, 3) := by decide +kernel
theorem dX6_clause_9 : decode cX6_clause 9 = .ok (.ifCond .ne 8, 3) := by decide +kernel
theorem dX6_clause_12 : decode cX6_clause 12 = .ok (.aload_n 0, 1) := by decide +kernel
theorem dX6_clause_13 : decode cX6_clause 13 = .ok (.invokevirtual 232, 3) := by decide +kernel
theorem dX6_clause_16 : decode cX6_clause 16 = .ok (.return_, 1) := by decide +kernel
theorem dX6_clause_17 : decode cX6_clause 17 = .ok (.aload_n 0, 1) := by decide +kernel
theorem dX6_clause_18 : decode cX6_clause 18 = .ok (.dup, 1) := by decide +kernel
theorem dX6_clause_19 : decode cX6_clause 19 = .ok (.getfield 220, 3) := by decide +kernel
theorem dX6_clause_22 : decode cX6_clause 22 = .ok (.iconst 1, 1) := by decide +kernel
theorem dX6_clause_23 : decode cX6_clause 23 = .ok (.iadd, 1) := by decide +kernel
theorem dX6_clause_24 : decode cX6_clause 24 = .ok (.putfield 220, 3) := by decide +kernel
theorem dX6_clause_27 : decode cX6_clause 27 = .ok (.aload_n 0, 1) := by decide +kernel
theorem dX6_clause_28 : decode cX6_clause 28 = .ok (.invokevirtual 235, 3) := by decide +kernel
theorem dX6_clause_31 : decode cX6_clause 31 = .ok (.bipush 58, 2) := by decide +kernel
theorem dX6_clause_33 : decode cX6_clause 33 = .ok (.if_icmp .eq 8, 3) := by decide +kernel
theorem dX6_clause_36 : decode cX6_clause 36 = .ok (.aload_n 0, 1) := by decide +kernel
theorem dX6_clause_37 : decode cX6_clause 37 = .ok (.invokevirtual 232, 3) := by decide +kernel
theorem dX6_clause_40 : decode cX6_clause 40 = .ok (.return_, 1) := by decide +kernel
theorem dX6_clause_41 : decode cX6_clause 41 = .ok (.aload_n 0, 1) := by decide +kernel
theorem dX6_clause_42 : decode cX6_clause 42 = .ok (.dup, 1) := by decide +kernel
theorem dX6_clause_43 : decode cX6_clause 43 = .ok (.getfield 220, 3) := by decide +kernel
theorem dX6_clause_46 : decode cX6_clause 46 = .ok (.iconst 1, 1) := by decide +kernel
theorem dX6_clause_47 : decode cX6_clause 47 = .ok (.iadd, 1) := by decide +kernel
theorem dX6_clause_48 : decode cX6_clause 48 = .ok (.putfield 220, 3) := by decide +kernel
theorem dX6_clause_51 : decode cX6_clause 51 = .ok (.aload_n 0, 1) := by decide +kernel
theorem dX6_clause_52 : decode cX6_clause 52 = .ok (.iload_n 1, 1) := by decide +kernel
theorem dX6_clause_53 : decode cX6_clause 53 = .ok (.invokevirtual 242, 3) := by decide +kernel
theorem dX6_clause_56 : decode cX6_clause 56 = .ok (.aload_n 0, 1) := by decide +kernel
theorem dX6_clause_57 : decode cX6_clause 57 = .ok (.invokevirtual 235, 3) := by decide +kernel
theorem dX6_clause_60 : decode cX6_clause 60 = .ok (.istore_n 2, 1) := by decide +kernel
theorem dX6_clause_61 : decode cX6_clause 61 = .ok (.iload_n 2, 1) := by decide +kernel
theorem dX6_clause_62 : decode cX6_clause 62 = .ok (.bipush 33, 2) := by decide +kernel
theorem dX6_clause_64 : decode cX6_clause 64 = .ok (.if_icmp .eq 13, 3) := by decide +kernel
theorem dX6_clause_67 : decode cX6_clause 67 = .ok (.iload_n 2, 1) := by decide +kernel
theorem dX6_clause_68 : decode cX6_clause 68 = .ok (.bipush 40, 2) := by decide +kernel
theorem dX6_clause_70 : decode cX6_clause 70 = .ok (.if_icmp .eq 7, 3) := by decide +kernel
theorem dX6_clause_73 : decode cX6_clause 73 = .ok (.iconst 1, 1) := by decide +kernel
theorem dX6_clause_74 : decode cX6_clause 74 = .ok (.goto 4, 3) := by decide +kernel
theorem dX6_clause_77 : decode cX6_clause 77 = .ok (.iconst 0, 1) := by decide +kernel
theorem dX6_clause_78 : decode cX6_clause 78 = .ok (.istore_n 3, 1) := by decide +kernel
theorem dX6_clause_79 : decode cX6_clause 79 = .ok (.aload_n 0, 1) := by decide +kernel
theorem dX6_clause_80 : decode cX6_clause 80 = .ok (.getfield 226, 3) := by decide +kernel
theorem dX6_clause_83 : decode cX6_clause 83 = .ok (.istore 4, 2) := by decide +kernel
theorem dX6_clause_85 : decode cX6_clause 85 = .ok (.iload_n 3, 1) := by decide +kernel
theorem dX6_clause_86 : decode cX6_clause 86 = .ok (.ifCond .eq 107, 3) := by decide +kernel
theorem dX6_clause_89 : decode cX6_clause 89 = .ok (.aload_n 0, 1) := by decide +kernel
theorem dX6_clause_90 : decode cX6_clause 90 = .ok (.invokevirtual 250, 3) := by decide +kernel
theorem dX6_clause_93 : decode cX6_clause 93 = .ok (.aload_n 0, 1) := by decide +kernel
theorem dX6_clause_94 : decode cX6_clause 94 = .ok (.getfield 223, 3) := by decide +kernel
theorem dX6_clause_97 : decode cX6_clause 97 = .ok (.iconst (-1), 1) := by decide +kernel
theorem dX6_clause_98 : decode cX6_clause 98 = .ok (.if_icmp .eq 4, 3) := by decide +kernel
theorem dX6_clause_101 : decode cX6_clause 101 = .ok (.return_, 1) := by decide +kernel
theorem dX6_clause_102 : decode cX6_clause 102 = .ok (.aload_n 0, 1) := by decide +kernel
theorem dX6_clause_103 : decode cX6_clause 103 = .ok (.invokevirtual 235, 3) := by decide +kernel
theorem dX6_clause_106 : decode cX6_clause 106 = .ok (.invokestatic 268, 3) := by decide +kernel
theorem dX6_clause_109 : decode cX6_clause 109 = .ok (.ifCond .ne 84, 3) := by decide +kernel
theorem dX6_clause_112 : decode cX6_clause 112 = .ok (.aload_n 0, 1) := by decide +kernel
theorem dX6_clause_113 : decode cX6_clause 113 = .ok (.getfield 226, 3) := by decide +kernel
theorem dX6_clause_116 : decode cX6_clause 116 = .ok (.iconst 1, 1) := by decide +kernel
theorem dX6_clause_117 : decode cX6_clause 117 = .ok (.isub, 1) := by decide +kernel
theorem dX6_clause_118 : decode cX6_clause 118 = .ok (.istore 5, 2) := by decide +kernel
theorem dX6_clause_120 : decode cX6_clause 120 = .ok (.iload 5, 2) := by decide +kernel
theorem dX6_clause_122 : decode cX6_clause 122 = .ok (.iload 4, 2) := by decide +kernel
theorem dX6_clause_124 : decode cX6_clause 124 = .ok (.if_icmp .lt 25, 3) := by decide +kernel
theorem dX6_clause_127 : decode cX6_clause 127 = .ok (.aload_n 0, 1) := by decide +kernel
theorem dX6_clause_128 : decode cX6_clause 128 = .ok (.getfield 80, 3) := by decide +kernel
theorem dX6_clause_131 : decode cX6_clause 131 = .ok (.iload 5, 2) := by decide +kernel
theorem dX6_clause_133 : decode cX6_clause 133 = .ok (.iconst 3, 1) := by decide +kernel
theorem dX6_clause_134 : decode cX6_clause 134 = .ok (.iadd, 1) := by decide +kernel
theorem dX6_clause_135 : decode cX6_clause 135 = .ok (.aload_n 0, 1) := by decide +kernel
theorem dX6_clause_136 : decode cX6_clause 136 = .ok (.getfield 80, 3) := by decide +kernel
theorem dX6_clause_139 : decode cX6_clause 139 = .ok (.iload 5, 2) := by decide +kernel
theorem dX6_clause_141 : decode cX6_clause 141 = .ok (.iaload, 1) := by decide +kernel
theorem dX6_clause_142 : decode cX6_clause 142 = .ok (.iastore, 1) := by decide +kernel
theorem dX6_clause_143 : decode cX6_clause 143 = .ok (.iinc 5 (-1), 3) := by decide +kernel
theorem dX6_clause_146 : decode cX6_clause 146 = .ok (.goto (-26), 3) := by decide +kernel
theorem dX6_clause_149 : decode cX6_clause 149 = .ok (.aload_n 0, 1) := by decide +kernel
theorem dX6_clause_150 : decode cX6_clause 150 = .ok (.getfield 80, 3) := by decide +kernel
theorem dX6_clause_153 : decode cX6_clause 153 = .ok (.iload 4, 2) := by decide +kernel
theorem dX6_clause_155 : decode cX6_clause 155 = .ok (.iconst 0, 1) := by decide +kernel
theorem dX6_clause_156 : decode cX6_clause 156 = .ok (.iastore, 1) := by decide +kernel
theorem dX6_clause_157 : decode cX6_clause 157 = .ok (.aload_n 0, 1) := by decide +kernel
theorem dX6_clause_158 : decode cX6_clause 158 = .ok (.getfield 80, 3) := by decide +kernel
theorem dX6_clause_161 : decode cX6_clause 161 = .ok (.iload 4, 2) := by decide +kernel
theorem dX6_clause_163 : decode cX6_clause 163 = .ok (.iconst 1, 1) := by decide +kernel
theorem dX6_clause_164 : decode cX6_clause 164 = .ok (.iadd, 1) := by decide +kernel
theorem dX6_clause_165 : decode cX6_clause 165 = .ok (.iconst 1, 1) := by decide +kernel
theorem dX6_clause_166 : decode cX6_clause 166 = .ok (.iastore, 1) := by decide +kernel
theorem dX6_clause_167 : decode cX6_clause 167 = .ok (.aload_n 0, 1) := by decide +kernel
theorem dX6_clause_168 : decode cX6_clause 168 = .ok (.getfield 80, 3) := by decide +kernel
theorem dX6_clause_171 : decode cX6_clause 171 = .ok (.iload 4, 2) := by decide +kernel
theorem dX6_clause_173 : decode cX6_clause 173 = .ok (.iconst 2, 1) := by decide +kernel
theorem dX6_clause_174 : decode cX6_clause 174 = .ok (.iadd, 1) := by decide +kernel
theorem dX6_clause_175 : decode cX6_clause 175 = .ok (.iconst 2, 1) := by decide +kernel
theorem dX6_clause_176 : decode cX6_clause 176 = .ok (.iastore, 1) := by decide +kernel
theorem dX6_clause_177 : decode cX6_clause 177 = .ok (.aload_n 0, 1) := by decide +kernel
theorem dX6_clause_178 : decode cX6_clause 178 = .ok (.dup, 1) := by decide +kernel
theorem dX6_clause_179 : decode cX6_clause 179 = .ok (.getfield 226, 3) := by decide +kernel
theorem dX6_clause_182 : decode cX6_clause 182 = .ok (.iconst 3, 1) := by decide +kernel
theorem dX6_clause_183 : decode cX6_clause 183 = .ok (.iadd, 1) := by decide +kernel
theorem dX6_clause_184 : decode cX6_clause 184 = .ok (.putfield 226, 3) := by decide +kernel
theorem dX6_clause_187 : decode cX6_clause 187 = .ok (.aload_n 0, 1) := by decide +kernel
theorem dX6_clause_188 : decode cX6_clause 188 = .ok (.iconst 3, 1) := by decide +kernel
theorem dX6_clause_189 : decode cX6_clause 189 = .ok (.invokevirtual 242, 3) := by decide +kernel
theorem dX6_clause_192 : decode cX6_clause 192 = .ok (.return_, 1) := by decide +kernel
theorem dX6_clause_193 : decode cX6_clause 193 = .ok (.aload_n 0, 1) := by decide +kernel
theorem dX6_clause_194 : decode cX6_clause 194 = .ok (.iload_n 3, 1) := by decide +kernel
theorem dX6_clause_195 : decode cX6_clause 195 = .ok (.invokevirtual 274, 3) := by decide +kernel
theorem dX6_clause_198 : decode cX6_clause 198 = .ok (.aload_n 0, 1) := by decide +kernel
theorem dX6_clause_199 : decode cX6_clause 199 = .ok (.getfield 223, 3) := by decide +kernel
theorem dX6_clause_202 : decode cX6_clause 202 = .ok (.iconst (-1), 1) := by decide +kernel
theorem dX6_clause_203 : decode cX6_clause 203 = .ok (.if_icmp .ne 16, 3) := by decide +kernel
theorem dX6_clause_206 : decode cX6_clause 206 = .ok (.aload_n 0, 1) := by decide +kernel
theorem dX6_clause_207 : decode cX6_clause 207 = .ok (.invokevirtual 235, 3) := by decide +kernel
theorem dX6_clause_210 : decode cX6_clause 210 = .ok (.bipush 63, 2) := by decide +kernel
theorem dX6_clause_212 : decode cX6_clause 212 = .ok (.if_icmp .eq 7, 3) := by decide +kernel
theorem dX6_clause_215 : decode cX6_clause 215 = .ok (.aload_n 0, 1) := by decide +kernel
theorem dX6_clause_216 : decode cX6_clause 216 = .ok (.invokevirtual 232, 3) := by decide +kernel
theorem dX6_clause_219 : decode cX6_clause 219 = .ok (.aload_n 0, 1) := by decide +kernel
theorem dX6_clause_220 : decode cX6_clause 220 = .ok (.getfield 223, 3) := by decide +kernel
theorem dX6_clause_223 : decode cX6_clause 223 = .ok (.iconst (-1), 1) := by decide +kernel
theorem dX6_clause_224 : decode cX6_clause 224 = .ok (.if_icmp .eq 4, 3) := by decide +kernel
theorem dX6_clause_227 : decode cX6_clause 227 = .ok (.return_, 1) := by decide +kernel
theorem dX6_clause_228 : decode cX6_clause 228 = .ok (.aload_n 0, 1) := by decide +kernel
theorem dX6_clause_229 : decode cX6_clause 229 = .ok (.dup, 1) := by decide +kernel
theorem dX6_clause_230 : decode cX6_clause 230 = .ok (.getfield 220, 3) := by decide +kernel
theorem dX6_clause_233 : decode cX6_clause 233 = .ok (.iconst 1, 1) := by decide +kernel
theorem dX6_clause_234 : decode cX6_clause 234 = .ok (.iadd, 1) := by decide +kernel
theorem dX6_clause_235 : decode cX6_clause 235 = .ok (.putfield 220, 3) := by decide +kernel
theorem dX6_clause_238 : decode cX6_clause 238 = .ok (.aload_n 0, 1) := by decide +kernel
theorem dX6_clause_239 : decode cX6_clause 239 = .ok (.iconst 2, 1) := by decide +kernel
theorem dX6_clause_240 : decode cX6_clause 240 = .ok (.invokevirtual 242, 3) := by decide +kernel
theorem dX6_clause_243 : decode cX6_clause 243 = .ok (.aload_n 0, 1) := by decide +kernel
theorem dX6_clause_244 : decode cX6_clause 244 = .ok (.invokevirtual 250, 3) := by decide +kernel
theorem dX6_clause_247 : decode cX6_clause 247 = .ok (.aload_n 0, 1) := by decide +kernel
theorem dX6_clause_248 : decode cX6_clause 248 = .ok (.iconst 3, 1) := by decide +kernel
theorem dX6_clause_249 : decode cX6_clause 249 = .ok (.invokevirtual 242, 3) := by decide +kernel
theorem dX6_clause_252 : decode cX6_clause 252 = .ok (.return_, 1) := by decide +kernel
abbrev rm_X6_clause : Room := k2_rm 324 6876
section
variable {p : Program} {l : Launch} {e : Env} {s : State} {m : MethodId} {args : Array Value} {below : List Frame} {meth : Method} {c : Code} {D : gD} {A : Nat → Prop} {ad : Nat → Nat} {S : Nat → Nat × Nat} {σ : Mem}
set_option maxRecDepth 100000 in
set_option maxHeartbeats 4000000 in
theorem w_X6_clause_L120 (Z : Cz D (Ew D A) A cX6_clause 6 none RX6 p s m args meth c) {u4 : Int32} (hu0 : S 200 = (24, 0)) {r : Mem} {k149 : Mem → Option Mem}
    (hk149 : ∀ (σ : Mem)  (H : Heap) (locs : List Loc) (ls : Array Slot), St D A ad S σ s.heap H locs → lv_has ls 6 [(0, .ref (ad 200)), (4, .int u4)] → k149 σ = some r → W p l e rm_X6_clause s m args below meth c H locs 0 0 (MQ below (QG D A ad S none r) args s 0 0 A) (F0 m 149 ls [])) :
    ∀ (n : Nat) (σ : Mem) (v5 : Int32) (H : Heap) (locs : List Loc) (ls : Array Slot), St D A ad S σ s.heap H locs → lv_has ls 6 [(0, .ref (ad 200)), (4, .int u4), (5, .int v5)] → f_X6_clause_L120 k149 u4 n σ v5 = some r → W p l e rm_X6_clause s m args below meth c H locs 0 0 (MQ below (QG D A ad S none r) args s 0 0 A) (F0 m 120 ls []) := by
  have hx := Z.1
  have hb := Z.2.1
  have hown := Z.2.2.2.2.2.1
  have hts := Z.2.2.2.2.2.2.1
  intro n
  induction n with
  | zero => intro σ v5 H locs ls hS hl h; cases h
  | succ n ih =>
    intro σ v5 H locs ls hS hl h
    unfold f_X6_clause_L120 at h
    refine lv_iload hx hb dX6_clause_120 (lv_at hl 2 rfl) ?_
    refine lv_iload hx hb dX6_clause_122 (lv_at hl 1 rfl) ?_
    refine lv_icmp_lt (tgt := 149) hx hb dX6_clause_124 (by decide) (fun c46 => ?_) (fun c46 => ?_)
    · have h := if_t h c46
      exact hk149 _ _ _ _ hS (lv_sub hl [0, 1] rfl) h
    · have h := if_f h c46
      refine lv_aload_n hx hb dX6_clause_127 rfl (lv_at hl 0 rfl) ?_
      refine h_getC (n := 27) (j := 227) (sh := (1, 420)) Z hS cls_14 hu0 (by decide) rfl rfl rfl fl_X6_80_14 dX6_clause_128 (fun hc47 => ?_)
      refine lv_iload hx hb dX6_clause_131 (lv_at hl 2 rfl) ?_
      refine lv_iconst (v := (3 : Int32)) hx hb dX6_clause_133 (by decide) ?_
      refine lv_iadd hx hb dX6_clause_134 ?_
      refine lv_aload_n hx hb dX6_clause_135 rfl (lv_at hl 0 rfl) ?_
      refine h_getC (n := 27) (j := 227) (sh := (1, 420)) Z hS cls_14 hu0 (by decide) rfl rfl rfl fl_X6_80_14 dX6_clause_136 (fun hc48 => ?_)
      refine lv_iload hx hb dX6_clause_139 (lv_at hl 2 rfl) ?_
      refine h_iald Z hS hc48 dX6_clause_141 h (fun x49 h => ?_)
      refine h_iast Z hS hc47 dX6_clause_142 h (fun σ50 H locs hS h => ?_)
      refine lv_iinc (v := (v5 + (-1 : Int32))) (lv' := [(5, .int (v5 + (-1 : Int32))), (0, .ref (ad 200)), (4, .int u4)]) hx hb dX6_clause_143 hl (k := 2) rfl rfl (by decide) rfl (fun ls hl => ?_)
      refine lv_goto (tgt := 120) hx hb dX6_clause_146 (by decide) ?_
      exact ih _ _ _ _ _ hS (lv_sub hl [1, 2, 0] rfl) h
set_option maxRecDepth 100000 in
set_option maxHeartbeats 4000000 in
theorem w_X6_clause (hi0 : S 200 = (24, 0)) {r : Mem} (h : f_X6_clause σ = some r) : Met l yX6_clause (ws_ yX6_clause cX6_clause 6 none) rm_X6_clause (va_Pc [.ref (ad 200)] (PreG D (Ew D A) A ad S σ)) (QG D A ad S none r) 0 0 A := by
  refine y_met (by decide) (Nat.le_of_ble_eq_true rfl) (fun p e s m below meth c ls Z hS hl => ?_)
  have hx := Z.1
  have hb := Z.2.1
  have hown := Z.2.2.2.2.2.1
  have hts := Z.2.2.2.2.2.2.1
  unfold f_X6_clause at h
  refine lv_aload_n hx hb dX6_clause_0 rfl (lv_at hl 0 rfl) ?_
  refine h_cim hS h (fun z hz => h_rV (rest := []) Z hS hi0 rfl v_X6_235 (w_X6_look hi0 hz) rfl rfl ⟨by decide, by decide⟩ rfl hl.1 rfl (Nat.le_of_ble_eq_true rfl) (Nat.zero_le _) (Nat.zero_le _) dX6_clause_1) (fun σ1 x2 H locs hS h => ?_)
  refine lv_istore_n (lv' := [(1, .int x2), (0, .ref (ad 200))]) hx hb dX6_clause_4 rfl hl (by decide) rfl (fun ls hl => ?_)
  refine lv_iload_n hx hb dX6_clause_5 rfl (lv_at hl 0 rfl) ?_
  refine h_ci hS h (fun z hz => h_rS (rest := []) Z hS v_X6_284 (w_X6_isLabel hz) rfl rfl ⟨by decide, by decide⟩ rfl hl.1 rfl (Nat.le_of_ble_eq_true rfl) (Nat.zero_le _) (Nat.zero_le _) dX6_clause_6) (fun x3 H locs hS h => ?_)
  refine lv_if_ne (tgt := 17) hx hb dX6_clause_9 (by decide) (fun c4 => ?_) (fun c4 => ?_)
  · have h := if_f h c4
    refine lv_aload_n hx hb dX6_clause_17 rfl (lv_at hl 1 rfl) ?_
    refine lv_dup hx hb dX6_clause_18 rfl ?_
    refine h_getI Z hS cls_14 hi0 (by decide) rfl fl_X6_220_14 dX6_clause_19 h (fun x6 h => ?_)
    refine lv_iconst (v := (1 : Int32)) hx hb dX6_clause_22 (by decide) ?_
    refine lv_iadd hx hb dX6_clause_23 ?_
    refine h_putI Z hS cls_14 hi0 (by decide) rfl rfl rfl fl_X6_220_14 dX6_clause_24 h (fun σ7 H locs hS h => ?_)
    refine lv_aload_n hx hb dX6_clause_27 rfl (lv_at hl 1 rfl) ?_
    refine h_cim hS h (fun z hz => h_rV (rest := []) Z hS hi0 rfl v_X6_235 (w_X6_look hi0 hz) rfl rfl ⟨by decide, by decide⟩ rfl hl.1 rfl (Nat.le_of_ble_eq_true rfl) (Nat.zero_le _) (Nat.zero_le _) dX6_clause_28) (fun σ8 x9 H locs hS h => ?_)
    refine lv_bipush (v := (58 : Int32)) hx hb dX6_clause_31 (by decide) ?_
    refine lv_icmp_eq (tgt := 41) hx hb dX6_clause_33 (by decide) (fun c10 => ?_) (fun c10 => ?_)
    · have h := if_t h c10
      refine lv_aload_n hx hb dX6_clause_41 rfl (lv_at hl 1 rfl) ?_
      refine lv_dup hx hb dX6_clause_42 rfl ?_
      refine h_getI Z hS cls_14 hi0 (by decide) rfl fl_X6_220_14 dX6_clause_43 h (fun x11 h => ?_)
      refine lv_iconst (v := (1 : Int32)) hx hb dX6_clause_46 (by decide) ?_
      refine lv_iadd hx hb dX6_clause_47 ?_
      refine h_putI Z hS cls_14 hi0 (by decide) rfl rfl rfl fl_X6_220_14 dX6_clause_48 h (fun σ12 H locs hS h => ?_)
      refine lv_aload_n hx hb dX6_clause_51 rfl (lv_at hl 1 rfl) ?_
      refine lv_iload_n hx hb dX6_clause_52 rfl (lv_at hl 0 rfl) ?_
      refine h_cm hS h (fun z hz => h_rV (rest := []) Z hS hi0 rfl v_X6_242 (w_X6_say hi0 hz) rfl rfl ⟨by decide, by decide⟩ rfl hl.1 rfl (Nat.le_of_ble_eq_true rfl) (Nat.zero_le _) (Nat.zero_le _) dX6_clause_53) (fun σ13 H locs hS h => ?_)
      refine lv_aload_n hx hb dX6_clause_56 rfl (lv_at hl 1 rfl) ?_
      refine h_cim hS h (fun z hz => h_rV (rest := []) Z hS hi0 rfl v_X6_235 (w_X6_look hi0 hz) rfl rfl ⟨by decide, by decide⟩ rfl hl.1 rfl (Nat.le_of_ble_eq_true rfl) (Nat.zero_le _) (Nat.zero_le _) dX6_clause_57) (fun σ14 x15 H locs hS h => ?_)
      refine lv_istore_n (lv' := [(2, .int x15), (1, .int x2), (0, .ref (ad 200))]) hx hb dX6_clause_60 rfl hl (by decide) rfl (fun ls hl => ?_)
      refine lv_iload_n hx hb dX6_clause_61 rfl (lv_at hl 0 rfl) ?_
      refine lv_bipush (v := (33 : Int32)) hx hb dX6_clause_62 (by decide) ?_
      obtain ⟨x17, hp18, h⟩ := bnd_el h
      have K18 : ∀ (H : Heap) (locs : List Loc) (ls : Array Slot), St D A ad S σ14 s.heap H locs → lv_has ls 6 [(0, .ref (ad 200))] → W p l e rm_X6_clause s m ([.ref (ad 200)] : List Value).toArray below meth c H locs 0 0 (MQ below (QG D A ad S none r) ([.ref (ad 200)] : List Value).toArray s 0 0 A) (F0 m 78 ls [.int x17]) := by
        intro H locs ls hS hl
        refine lv_istore_n (lv' := [(3, .int x17), (0, .ref (ad 200))]) hx hb dX6_clause_78 rfl hl (by decide) rfl (fun ls hl => ?_)
        refine lv_aload_n hx hb dX6_clause_79 rfl (lv_at hl 1 rfl) ?_
        refine h_getI Z hS cls_14 hi0 (by decide) rfl fl_X6_226_14 dX6_clause_80 h (fun x19 h => ?_)
        refine lv_istore (lv' := [(4, .int x19), (3, .int x17), (0, .ref (ad 200))]) hx hb dX6_clause_83 hl (by decide) rfl (fun ls hl => ?_)
        refine lv_iload_n hx hb dX6_clause_85 rfl (lv_at hl 1 rfl) ?_
        refine lv_if_eq (tgt := 193) hx hb dX6_clause_86 (by decide) (fun c20 => ?_) (fun c20 => ?_)
        · have h := if_t h c20
          refine lv_aload_n hx hb dX6_clause_193 rfl (lv_at hl 2 rfl) ?_
          refine lv_iload_n hx hb dX6_clause_194 rfl (lv_at hl 1 rfl) ?_
          refine h_cm hS h (fun z hz => h_rV (rest := []) Z hS hi0 rfl v_X6_274 (w_X6_condition_b (rec := f_X6_unit 8) (qf := (rmr_X6_unit 8).1) (ql := (rmr_X6_unit 8).2) (w_X6_unit hi0 8) hi0 hz) rfl rfl ⟨by decide, by decide⟩ rfl hl.1 rfl (Nat.le_of_ble_eq_true rfl) (Nat.zero_le _) (Nat.zero_le _) dX6_clause_195) (fun σ21 H locs hS h => ?_)
          refine lv_aload_n hx hb dX6_clause_198 rfl (lv_at hl 2 rfl) ?_
          refine h_getI Z hS cls_14 hi0 (by decide) rfl fl_X6_223_14 dX6_clause_199 h (fun x22 h => ?_)
          refine lv_iconst (v := (-1 : Int32)) hx hb dX6_clause_202 (by decide) ?_
          obtain ⟨σ24, hp25, h⟩ := bnd_el h
          have K25 : ∀ (H : Heap) (locs : List Loc) (ls : Array Slot), St D A ad S σ24 s.heap H locs → lv_has ls 6 [(0, .ref (ad 200))] → W p l e rm_X6_clause s m ([.ref (ad 200)] : List Value).toArray below meth c H locs 0 0 (MQ below (QG D A ad S none r) ([.ref (ad 200)] : List Value).toArray s 0 0 A) (F0 m 219 ls []) := by
            intro H locs ls hS hl
            refine lv_aload_n hx hb dX6_clause_219 rfl (lv_at hl 0 rfl) ?_
            refine h_getI Z hS cls_14 hi0 (by decide) rfl fl_X6_223_14 dX6_clause_220 h (fun x26 h => ?_)
            refine lv_iconst (v := (-1 : Int32)) hx hb dX6_clause_223 (by decide) ?_
            refine lv_icmp_eq (tgt := 228) hx hb dX6_clause_224 (by decide) (fun c27 => ?_) (fun c27 => ?_)
            · have h := if_t h c27
              refine lv_aload_n hx hb dX6_clause_228 rfl (lv_at hl 0 rfl) ?_
              refine lv_dup hx hb dX6_clause_229 rfl ?_
              refine h_getI Z hS cls_14 hi0 (by decide) rfl fl_X6_220_14 dX6_clause_230 h (fun x28 h => ?_)
              refine lv_iconst (v := (1 : Int32)) hx hb dX6_clause_233 (by decide) ?_
              refine lv_iadd hx hb dX6_clause_234 ?_
              refine h_putI Z hS cls_14 hi0 (by decide) rfl rfl rfl fl_X6_220_14 dX6_clause_235 h (fun σ29 H locs hS h => ?_)
              refine lv_aload_n hx hb dX6_clause_238 rfl (lv_at hl 0 rfl) ?_
              refine lv_iconst (v := (2 : Int32)) hx hb dX6_clause_239 (by decide) ?_
              refine h_cm hS h (fun z hz => h_rV (rest := []) Z hS hi0 rfl v_X6_242 (w_X6_say hi0 hz) rfl rfl ⟨by decide, by decide⟩ rfl hl.1 rfl (Nat.le_of_ble_eq_true rfl) (Nat.zero_le _) (Nat.zero_le _) dX6_clause_240) (fun σ30 H locs hS h => ?_)
              refine lv_aload_n hx hb dX6_clause_243 rfl (lv_at hl 0 rfl) ?_
              refine h_cm hS h (fun z hz => h_rV (rest := []) Z hS hi0 rfl v_X6_250 (w_X6_sum hi0 8 _ _ hz) rfl rfl ⟨by decide, by decide⟩ rfl hl.1 rfl (Nat.le_of_ble_eq_true rfl) (Nat.zero_le _) (Nat.zero_le _) dX6_clause_244) (fun σ31 H locs hS h => ?_)
              refine lv_aload_n hx hb dX6_clause_247 rfl (lv_at hl 0 rfl) ?_
              refine lv_iconst (v := (3 : Int32)) hx hb dX6_clause_248 (by decide) ?_
              refine h_cm hS h (fun z hz => h_rV (rest := []) Z hS hi0 rfl v_X6_242 (w_X6_say hi0 hz) rfl rfl ⟨by decide, by decide⟩ rfl hl.1 rfl (Nat.le_of_ble_eq_true rfl) (Nat.zero_le _) (Nat.zero_le _) dX6_clause_249) (fun σ32 H locs hS h => ?_)
              exact h_vret Z hS dX6_clause_252 h
            · have h := if_f h c27
              exact h_vret Z hS dX6_clause_227 h
          clear h
          have h := hp25
          clear hp25
          refine lv_icmp_ne (tgt := 219) hx hb dX6_clause_203 (by decide) (fun c23 => ?_) (fun c23 => ?_)
          · have h := if_f h c23
            cases h
            exact K25 _ _ _ hS (lv_sub hl [2] rfl)
          · have h := if_t h c23
            refine lv_aload_n hx hb dX6_clause_206 rfl (lv_at hl 2 rfl) ?_
            refine h_cim hS h (fun z hz => h_rV (rest := []) Z hS hi0 rfl v_X6_235 (w_X6_look hi0 hz) rfl rfl ⟨by decide, by decide⟩ rfl hl.1 rfl (Nat.le_of_ble_eq_true rfl) (Nat.zero_le _) (Nat.zero_le _) dX6_clause_207) (fun σ33 x34 H locs hS h => ?_)
            refine lv_bipush (v := (63 : Int32)) hx hb dX6_clause_210 (by decide) ?_
            refine lv_icmp_eq (tgt := 219) hx hb dX6_clause_212 (by decide) (fun c35 => ?_) (fun c35 => ?_)
            · have h := if_t h c35
              cases h
              exact K25 _ _ _ hS (lv_sub hl [2] rfl)
            · have h := if_f h c35
              refine lv_aload_n hx hb dX6_clause_215 rfl (lv_at hl 2 rfl) ?_
              refine h_cm hS h (fun z hz => h_rV (rest := []) Z hS hi0 rfl v_X6_232 (w_X6_bad hi0 hz) rfl rfl ⟨by decide, by decide⟩ rfl hl.1 rfl (Nat.le_of_ble_eq_true rfl) (Nat.zero_le _) (Nat.zero_le _) dX6_clause_216) (fun σ36 H locs hS h => ?_)
              cases h
              exact K25 _ _ _ hS (lv_sub hl [2] rfl)
        · have h := if_f h c20
          refine lv_aload_n hx hb dX6_clause_89 rfl (lv_at hl 2 rfl) ?_
          refine h_cm hS h (fun z hz => h_rV (rest := []) Z hS hi0 rfl v_X6_250 (w_X6_sum hi0 8 _ _ hz) rfl rfl ⟨by decide, by decide⟩ rfl hl.1 rfl (Nat.le_of_ble_eq_true rfl) (Nat.zero_le _) (Nat.zero_le _) dX6_clause_90) (fun σ37 H locs hS h => ?_)
          refine lv_aload_n hx hb dX6_clause_93 rfl (lv_at hl 2 rfl) ?_
          refine h_getI Z hS cls_14 hi0 (by decide) rfl fl_X6_223_14 dX6_clause_94 h (fun x38 h => ?_)
          refine lv_iconst (v := (-1 : Int32)) hx hb dX6_clause_97 (by decide) ?_
          refine lv_icmp_eq (tgt := 102) hx hb dX6_clause_98 (by decide) (fun c39 => ?_) (fun c39 => ?_)
          · have h := if_t h c39
            refine lv_aload_n hx hb dX6_clause_102 rfl (lv_at hl 2 rfl) ?_
            refine h_cim hS h (fun z hz => h_rV (rest := []) Z hS hi0 rfl v_X6_235 (w_X6_look hi0 hz) rfl rfl ⟨by decide, by decide⟩ rfl hl.1 rfl (Nat.le_of_ble_eq_true rfl) (Nat.zero_le _) (Nat.zero_le _) dX6_clause_103) (fun σ40 x41 H locs hS h => ?_)
            refine h_ci hS h (fun z hz => h_rS (rest := []) Z hS v_X6_268 (w_X6_isSign hz) rfl rfl ⟨by decide, by decide⟩ rfl hl.1 rfl (Nat.le_of_ble_eq_true rfl) (Nat.zero_le _) (Nat.zero_le _) dX6_clause_106) (fun x42 H locs hS h => ?_)
            refine lv_if_ne (tgt := 193) hx hb dX6_clause_109 (by decide) (fun c43 => ?_) (fun c43 => ?_)
            · have h := if_f h c43
              refine lv_aload_n hx hb dX6_clause_193 rfl (lv_at hl 2 rfl) ?_
              refine lv_iload_n hx hb dX6_clause_194 rfl (lv_at hl 1 rfl) ?_
              refine h_cm hS h (fun z hz => h_rV (rest := []) Z hS hi0 rfl v_X6_274 (w_X6_condition_b (rec := f_X6_unit 8) (qf := (rmr_X6_unit 8).1) (ql := (rmr_X6_unit 8).2) (w_X6_unit hi0 8) hi0 hz) rfl rfl ⟨by decide, by decide⟩ rfl hl.1 rfl (Nat.le_of_ble_eq_true rfl) (Nat.zero_le _) (Nat.zero_le _) dX6_clause_195) (fun σ61 H locs hS h => ?_)
              refine lv_aload_n hx hb dX6_clause_198 rfl (lv_at hl 2 rfl) ?_
              refine h_getI Z hS cls_14 hi0 (by decide) rfl fl_X6_223_14 dX6_clause_199 h (fun x62 h => ?_)
              refine lv_iconst (v := (-1 : Int32)) hx hb dX6_clause_202 (by decide) ?_
              obtain ⟨σ64, hp65, h⟩ := bnd_el h
              have K65 : ∀ (H : Heap) (locs : List Loc) (ls : Array Slot), St D A ad S σ64 s.heap H locs → lv_has ls 6 [(0, .ref (ad 200))] → W p l e rm_X6_clause s m ([.ref (ad 200)] : List Value).toArray below meth c H locs 0 0 (MQ below (QG D A ad S none r) ([.ref (ad 200)] : List Value).toArray s 0 0 A) (F0 m 219 ls []) := by
                intro H locs ls hS hl
                refine lv_aload_n hx hb dX6_clause_219 rfl (lv_at hl 0 rfl) ?_
                refine h_getI Z hS cls_14 hi0 (by decide) rfl fl_X6_223_14 dX6_clause_220 h (fun x66 h => ?_)
                refine lv_iconst (v := (-1 : Int32)) hx hb dX6_clause_223 (by decide) ?_
                refine lv_icmp_eq (tgt := 228) hx hb dX6_clause_224 (by decide) (fun c67 => ?_) (fun c67 => ?_)
                · have h := if_t h c67
                  refine lv_aload_n hx hb dX6_clause_228 rfl (lv_at hl 0 rfl) ?_
                  refine lv_dup hx hb dX6_clause_229 rfl ?_
                  refine h_getI Z hS cls_14 hi0 (by decide) rfl fl_X6_220_14 dX6_clause_230 h (fun x68 h => ?_)
                  refine lv_iconst (v := (1 : Int32)) hx hb dX6_clause_233 (by decide) ?_
                  refine lv_iadd hx hb dX6_clause_234 ?_
                  refine h_putI Z hS cls_14 hi0 (by decide) rfl rfl rfl fl_X6_220_14 dX6_clause_235 h (fun σ69 H locs hS h => ?_)
                  refine lv_aload_n hx hb dX6_clause_238 rfl (lv_at hl 0 rfl) ?_
                  refine lv_iconst (v := (2 : Int32)) hx hb dX6_clause_239 (by decide) ?_
                  refine h_cm hS h (fun z hz => h_rV (rest := []) Z hS hi0 rfl v_X6_242 (w_X6_say hi0 hz) rfl rfl ⟨by decide, by decide⟩ rfl hl.1 rfl (Nat.le_of_ble_eq_true rfl) (Nat.zero_le _) (Nat.zero_le _) dX6_clause_240) (fun σ70 H locs hS h => ?_)
                  refine lv_aload_n hx hb dX6_clause_243 rfl (lv_at hl 0 rfl) ?_
                  refine h_cm hS h (fun z hz => h_rV (rest := []) Z hS hi0 rfl v_X6_250 (w_X6_sum hi0 8 _ _ hz) rfl rfl ⟨by decide, by decide⟩ rfl hl.1 rfl (Nat.le_of_ble_eq_true rfl) (Nat.zero_le _) (Nat.zero_le _) dX6_clause_244) (fun σ71 H locs hS h => ?_)
                  refine lv_aload_n hx hb dX6_clause_247 rfl (lv_at hl 0 rfl) ?_
                  refine lv_iconst (v := (3 : Int32)) hx hb dX6_clause_248 (by decide) ?_
                  refine h_cm hS h (fun z hz => h_rV (rest := []) Z hS hi0 rfl v_X6_242 (w_X6_say hi0 hz) rfl rfl ⟨by decide, by decide⟩ rfl hl.1 rfl (Nat.le_of_ble_eq_true rfl) (Nat.zero_le _) (Nat.zero_le _) dX6_clause_249) (fun σ72 H locs hS h => ?_)
                  exact h_vret Z hS dX6_clause_252 h
                · have h := if_f h c67
                  exact h_vret Z hS dX6_clause_227 h
              clear h
              have h := hp65
              clear hp65
              refine lv_icmp_ne (tgt := 219) hx hb dX6_clause_203 (by decide) (fun c63 => ?_) (fun c63 => ?_)
              · have h := if_f h c63
                cases h
                exact K65 _ _ _ hS (lv_sub hl [2] rfl)
              · have h := if_t h c63
                refine lv_aload_n hx hb dX6_clause_206 rfl (lv_at hl 2 rfl) ?_
                refine h_cim hS h (fun z hz => h_rV (rest := []) Z hS hi0 rfl v_X6_235 (w_X6_look hi0 hz) rfl rfl ⟨by decide, by decide⟩ rfl hl.1 rfl (Nat.le_of_ble_eq_true rfl) (Nat.zero_le _) (Nat.zero_le _) dX6_clause_207) (fun σ73 x74 H locs hS h => ?_)
                refine lv_bipush (v := (63 : Int32)) hx hb dX6_clause_210 (by decide) ?_
                refine lv_icmp_eq (tgt := 219) hx hb dX6_clause_212 (by decide) (fun c75 => ?_) (fun c75 => ?_)
                · have h := if_t h c75
                  cases h
                  exact K65 _ _ _ hS (lv_sub hl [2] rfl)
                · have h := if_f h c75
                  refine lv_aload_n hx hb dX6_clause_215 rfl (lv_at hl 2 rfl) ?_
                  refine h_cm hS h (fun z hz => h_rV (rest := []) Z hS hi0 rfl v_X6_232 (w_X6_bad hi0 hz) rfl rfl ⟨by decide, by decide⟩ rfl hl.1 rfl (Nat.le_of_ble_eq_true rfl) (Nat.zero_le _) (Nat.zero_le _) dX6_clause_216) (fun σ76 H locs hS h => ?_)
                  cases h
                  exact K65 _ _ _ hS (lv_sub hl [2] rfl)
            · have h := if_t h c43
              refine lv_aload_n hx hb dX6_clause_112 rfl (lv_at hl 2 rfl) ?_
              refine h_getI Z hS cls_14 hi0 (by decide) rfl fl_X6_226_14 dX6_clause_113 h (fun x44 h => ?_)
              refine lv_iconst (v := (1 : Int32)) hx hb dX6_clause_116 (by decide) ?_
              refine lv_isub hx hb dX6_clause_117 ?_
              refine h_leti h (fun x45 h => ?_)
              refine lv_istore (lv' := [(5, .int x45), (4, .int x19), (3, .int x17), (0, .ref (ad 200))]) hx hb dX6_clause_118 hl (by decide) rfl (fun ls hl => ?_)
              refine w_X6_clause_L120 Z hi0 (fun σ51 H locs ls hS hl h => ?_) FU _ _ _ _ _ hS (lv_sub hl [3, 1, 0] rfl) h
              refine lv_aload_n hx hb dX6_clause_149 rfl (lv_at hl 0 rfl) ?_
              refine h_getC (n := 27) (j := 227) (sh := (1, 420)) Z hS cls_14 hi0 (by decide) rfl rfl rfl fl_X6_80_14 dX6_clause_150 (fun hc52 => ?_)
              refine lv_iload hx hb dX6_clause_153 (lv_at hl 1 rfl) ?_
              refine lv_iconst (v := (0 : Int32)) hx hb dX6_clause_155 (by decide) ?_
              refine h_iast Z hS hc52 dX6_clause_156 h (fun σ53 H locs hS h => ?_)
              refine lv_aload_n hx hb dX6_clause_157 rfl (lv_at hl 0 rfl) ?_
              refine h_getC (n := 27) (j := 227) (sh := (1, 420)) Z hS cls_14 hi0 (by decide) rfl rfl rfl fl_X6_80_14 dX6_clause_158 (fun hc54 => ?_)
              refine lv_iload hx hb dX6_clause_161 (lv_at hl 1 rfl) ?_
              refine lv_iconst (v := (1 : Int32)) hx hb dX6_clause_163 (by decide) ?_
              refine lv_iadd hx hb dX6_clause_164 ?_
              refine lv_iconst (v := (1 : Int32)) hx hb dX6_clause_165 (by decide) ?_
              refine h_iast Z hS hc54 dX6_clause_166 h (fun σ55 H locs hS h => ?_)
              refine lv_aload_n hx hb dX6_clause_167 rfl (lv_at hl 0 rfl) ?_
              refine h_getC (n := 27) (j := 227) (sh := (1, 420)) Z hS cls_14 hi0 (by decide) rfl rfl rfl fl_X6_80_14 dX6_clause_168 (fun hc56 => ?_)
              refine lv_iload hx hb dX6_clause_171 (lv_at hl 1 rfl) ?_
              refine lv_iconst (v := (2 : Int32)) hx hb dX6_clause_173 (by decide) ?_
              refine lv_iadd hx hb dX6_clause_174 ?_
              refine lv_iconst (v := (2 : Int32)) hx hb dX6_clause_175 (by decide) ?_
              refine h_iast Z hS hc56 dX6_clause_176 h (fun σ57 H locs hS h => ?_)
              refine lv_aload_n hx hb dX6_clause_177 rfl (lv_at hl 0 rfl) ?_
              refine lv_dup hx hb dX6_clause_178 rfl ?_
              refine h_getI Z hS cls_14 hi0 (by decide) rfl fl_X6_226_14 dX6_clause_179 h (fun x58 h => ?_)
              refine lv_iconst (v := (3 : Int32)) hx hb dX6_clause_182 (by decide) ?_
              refine lv_iadd hx hb dX6_clause_183 ?_
              refine h_putI Z hS cls_14 hi0 (by decide) rfl rfl rfl fl_X6_226_14 dX6_clause_184 h (fun σ59 H locs hS h => ?_)
              refine lv_aload_n hx hb dX6_clause_187 rfl (lv_at hl 0 rfl) ?_
              refine lv_iconst (v := (3 : Int32)) hx hb dX6_clause_188 (by decide) ?_
              refine h_cm hS h (fun z hz => h_rV (rest := []) Z hS hi0 rfl v_X6_242 (w_X6_say hi0 hz) rfl rfl ⟨by decide, by decide⟩ rfl hl.1 rfl (Nat.le_of_ble_eq_true rfl) (Nat.zero_le _) (Nat.zero_le _) dX6_clause_189) (fun σ60 H locs hS h => ?_)
              exact h_vret Z hS dX6_clause_192 h
          · have h := if_f h c39
            exact h_vret Z hS dX6_clause_101 h
      clear h
      have h := hp18
      clear hp18
      refine lv_icmp_eq (tgt := 77) hx hb dX6_clause_64 (by decide) (fun c16 => ?_) (fun c16 => ?_)
      · have h := if_t h c16
        refine lv_iconst (v := (0 : Int32)) hx hb dX6_clause_77 (by decide) ?_
        cases h
        exact K18 _ _ _ hS (lv_sub hl [2] rfl)
      · have h := if_f h c16
        refine lv_iload_n hx hb dX6_clause_67 rfl (lv_at hl 0 rfl) ?_
        refine lv_bipush (v := (40 : Int32)) hx hb dX6_clause_68 (by decide) ?_
        refine lv_icmp_eq (tgt := 77) hx hb dX6_clause_70 (by decide) (fun c77 => ?_) (fun c77 => ?_)
        · have h := if_t h c77
          refine lv_iconst (v := (0 : Int32)) hx hb dX6_clause_77 (by decide) ?_
          cases h
          exact K18 _ _ _ hS (lv_sub hl [2] rfl)
        · have h := if_f h c77
          refine lv_iconst (v := (1 : Int32)) hx hb dX6_clause_73 (by decide) ?_
          refine lv_goto (tgt := 78) hx hb dX6_clause_74 (by decide) ?_
          cases h
          exact K18 _ _ _ hS (lv_sub hl [2] rfl)
    · have h := if_f h c10
      refine lv_aload_n hx hb dX6_clause_36 rfl (lv_at hl 1 rfl) ?_
      refine h_cm hS h (fun z hz => h_rV (rest := []) Z hS hi0 rfl v_X6_232 (w_X6_bad hi0 hz) rfl rfl ⟨by decide, by decide⟩ rfl hl.1 rfl (Nat.le_of_ble_eq_true rfl) (Nat.zero_le _) (Nat.zero_le _) dX6_clause_37) (fun σ78 H locs hS h => ?_)
      exact h_vret Z hS dX6_clause_40 h
  · have h := if_t h c4
    refine lv_aload_n hx hb dX6_clause_12 rfl (lv_at hl 1 rfl) ?_
    refine h_cm hS h (fun z hz => h_rV (rest := []) Z hS hi0 rfl v_X6_232 (w_X6_bad hi0 hz) rfl rfl ⟨by decide, by decide⟩ rfl hl.1 rfl (Nat.le_of_ble_eq_true rfl) (Nat.zero_le _) (Nat.zero_le _) dX6_clause_13) (fun σ5 H locs hS h => ?_)
    exact h_vret Z hS dX6_clause_16 h
end
theorem dX6_fault_0 : decode cX6_fault 0 = .ok (.aload_n 0, 1) := by decide +kernel
theorem dX6_fault_1 : decode cX6_fault 1 = .ok (.iconst 0, 1) := by decide +kernel
theorem dX6_fault_2 : decode cX6_fault 2 = .ok (.putfield 220, 3) := by decide +kernel
theorem dX6_fault_5 : decode cX6_fault 5 = .ok (.aload_n 0, 1) := by decide +kernel
theorem dX6_fault_6 : decode cX6_fault 6 = .ok (.iconst (-1), 1) := by decide +kernel
theorem dX6_fault_7 : decode cX6_fault 7 = .ok (.putfield 223, 3) := by decide +kernel
theorem dX6_fault_10 : decode cX6_fault 10 = .ok (.aload_n 0, 1) := by decide +kernel
theorem dX6_fault_11 : decode cX6_fault 11 = .ok (.iconst 0, 1) := by decide +kernel
theorem dX6_fault_12 : decode cX6_fault 12 = .ok (.putfield 229, 3) := by decide +kernel
theorem dX6_fault_15 : decode cX6_fault 15 = .ok (.aload_n 0, 1) := by decide +kernel
theorem dX6_fault_16 : decode cX6_fault 16 = .ok (.iconst 0, 1) := by decide +kernel
theorem dX6_fault_17 : decode cX6_fault 17 = .ok (.putfield 226, 3) := by decide +kernel
theorem dX6_fault_20 : decode cX6_fault 20 = .ok (.aload_n 0, 1) := by decide +kernel
theorem dX6_fault_21 : decode cX6_fault 21 = .ok (.invokevirtual 287, 3) := by decide +kernel
theorem dX6_fault_24 : decode cX6_fault 24 = .ok (.aload_n 0, 1) := by decide +kernel
theorem dX6_fault_25 : decode cX6_fault 25 = .ok (.getfield 223, 3) := by decide +kernel
theorem dX6_fault_28 : decode cX6_fault 28 = .ok (.iconst (-1), 1) := by decide +kernel
theorem dX6_fault_29 : decode cX6_fault 29 = .ok (.if_icmp .ne 29, 3) := by decide +kernel
theorem dX6_fault_32 : decode cX6_fault 32 = .ok (.aload_n 0, 1) := by decide +kernel
theorem dX6_fault_33 : decode cX6_fault 33 = .ok (.invokevirtual 235, 3) := by decide +kernel
theorem dX6_fault_36 : decode cX6_fault 36 = .ok (.bipush 59, 2) := by decide +kernel
theorem dX6_fault_38 : decode cX6_fault 38 = .ok (.if_icmp .ne 20, 3) := by decide +kernel
theorem dX6_fault_41 : decode cX6_fault 41 = .ok (.aload_n 0, 1) := by decide +kernel
theorem dX6_fault_42 : decode cX6_fault 42 = .ok (.dup, 1) := by decide +kernel
theorem dX6_fault_43 : decode cX6_fault 43 = .ok (.getfield 220, 3) := by decide +kernel
theorem dX6_fault_46 : decode cX6_fault 46 = .ok (.iconst 1, 1) := by decide +kernel
theorem dX6_fault_47 : decode cX6_fault 47 = .ok (.iadd, 1) := by decide +kernel
theorem dX6_fault_48 : decode cX6_fault 48 = .ok (.putfield 220, 3) := by decide +kernel
theorem dX6_fault_51 : decode cX6_fault 51 = .ok (.aload_n 0, 1) := by decide +kernel
theorem dX6_fault_52 : decode cX6_fault 52 = .ok (.invokevirtual 287, 3) := by decide +kernel
theorem dX6_fault_55 : decode cX6_fault 55 = .ok (.goto (-31), 3) := by decide +kernel
theorem dX6_fault_58 : decode cX6_fault 58 = .ok (.aload_n 0, 1) := by decide +kernel
theorem dX6_fault_59 : decode cX6_fault 59 = .ok (.getfield 223, 3) := by decide +kernel
theorem dX6_fault_62 : decode cX6_fault 62 = .ok (.iconst (-1), 1) := by decide +kernel
theorem dX6_fault_63 : decode cX6_fault 63 = .ok (.if_icmp .ne 15, 3) := by decide +kernel
theorem dX6_fault_66 : decode cX6_fault 66 = .ok (.aload_n 0, 1) := by decide +kernel
theorem dX6_fault_67 : decode cX6_fault 67 = .ok (.invokevirtual 235, 3) := by decide +kernel
theorem dX6_fault_70 : decode cX6_fault 70 = .ok (.iconst (-1), 1) := by decide +kernel
theorem dX6_fault_71 : decode cX6_fault 71 = .ok (.if_icmp .eq 7, 3) := by decide +kernel
theorem dX6_fault_74 : decode cX6_fault 74 = .ok (.aload_n 0, 1) := by decide +kernel
theorem dX6_fault_75 : decode cX6_fault 75 = .ok (.invokevirtual 232, 3) := by decide +kernel
theorem dX6_fault_78 : decode cX6_fault 78 = .ok (.aload_n 0, 1) := by decide +kernel
theorem dX6_fault_79 : decode cX6_fault 79 = .ok (.getfield 223, 3) := by decide +kernel
theorem dX6_fault_82 : decode cX6_fault 82 = .ok (.ireturn, 1) := by decide +kernel
abbrev rm_X6_fault : Room := k2_rm 325 6901
section
variable {p : Program} {l : Launch} {e : Env} {s : State} {m : MethodId} {args : Array Value} {below : List Frame} {meth : Method} {c : Code} {D : gD} {A : Nat → Prop} {ad : Nat → Nat} {S : Nat → Nat × Nat} {σ : Mem}
set_option maxRecDepth 100000 in
set_option maxHeartbeats 4000000 in
theorem w_X6_fault_L24 (Z : Cz D (Ew D A) A cX6_fault 1 (some .int) RX6 p s m args meth c) (hu0 : S 200 = (24, 0)) {r : (Mem × Int32)} {k58 : Mem → Option (Mem × Int32)}
    (hk58 : ∀ (σ : Mem)  (H : Heap) (locs : List Loc) (ls : Array Slot), St D A ad S σ s.heap H locs → lv_has ls 1 [(0, .ref (ad 200))] → k58 σ = some r → W p l e rm_X6_fault s m args below meth c H locs 0 0 (MQ below (QG D A ad S (some (.int r.2)) r.1) args s 0 0 A) (F0 m 58 ls [])) :
    ∀ (n : Nat) (σ : Mem)  (H : Heap) (locs : List Loc) (ls : Array Slot), St D A ad S σ s.heap H locs → lv_has ls 1 [(0, .ref (ad 200))] → f_X6_fault_L24 k58 n σ = some r → W p l e rm_X6_fault s m args below meth c H locs 0 0 (MQ below (QG D A ad S (some (.int r.2)) r.1) args s 0 0 A) (F0 m 24 ls []) := by
  have hx := Z.1
  have hb := Z.2.1
  have hown := Z.2.2.2.2.2.1
  have hts := Z.2.2.2.2.2.2.1
  intro n
  induction n with
  | zero => intro σ H locs ls hS hl h; cases h
  | succ n ih =>
    intro σ H locs ls hS hl h
    unfold f_X6_fault_L24 at h
    refine lv_aload_n hx hb dX6_fault_24 rfl (lv_at hl 0 rfl) ?_
    refine h_getI Z hS cls_14 hu0 (by decide) rfl fl_X6_223_14 dX6_fault_25 h (fun x6 h => ?_)
    refine lv_iconst (v := (-1 : Int32)) hx hb dX6_fault_28 (by decide) ?_
    refine lv_icmp_ne (tgt := 58) hx hb dX6_fault_29 (by decide) (fun c7 => ?_) (fun c7 => ?_)
    · have h := if_f h c7
      exact hk58 _ _ _ _ hS (lv_sub hl [0] rfl) h
    · have h := if_t h c7
      refine lv_aload_n hx hb dX6_fault_32 rfl (lv_at hl 0 rfl) ?_
      refine h_cim hS h (fun z hz => h_rV (rest := []) Z hS hu0 rfl v_X6_235 (w_X6_look hu0 hz) rfl rfl ⟨by decide, by decide⟩ rfl hl.1 rfl (Nat.le_of_ble_eq_true rfl) (Nat.zero_le _) (Nat.zero_le _) dX6_fault_33) (fun σ8 x9 H locs hS h => ?_)
      refine lv_bipush (v := (59 : Int32)) hx hb dX6_fault_36 (by decide) ?_
      refine lv_icmp_ne (tgt := 58) hx hb dX6_fault_38 (by decide) (fun c10 => ?_) (fun c10 => ?_)
      · have h := if_f h c10
        exact hk58 _ _ _ _ hS (lv_sub hl [0] rfl) h
      · have h := if_t h c10
        refine lv_aload_n hx hb dX6_fault_41 rfl (lv_at hl 0 rfl) ?_
        refine lv_dup hx hb dX6_fault_42 rfl ?_
        refine h_getI Z hS cls_14 hu0 (by decide) rfl fl_X6_220_14 dX6_fault_43 h (fun x11 h => ?_)
        refine lv_iconst (v := (1 : Int32)) hx hb dX6_fault_46 (by decide) ?_
        refine lv_iadd hx hb dX6_fault_47 ?_
        refine h_putI Z hS cls_14 hu0 (by decide) rfl rfl rfl fl_X6_220_14 dX6_fault_48 h (fun σ12 H locs hS h => ?_)
        refine lv_aload_n hx hb dX6_fault_51 rfl (lv_at hl 0 rfl) ?_
        refine h_cm hS h (fun z hz => h_rV (rest := []) Z hS hu0 rfl v_X6_287 (w_X6_clause hu0 hz) rfl rfl ⟨by decide, by decide⟩ rfl hl.1 rfl (Nat.le_of_ble_eq_true rfl) (Nat.zero_le _) (Nat.zero_le _) dX6_fault_52) (fun σ13 H locs hS h => ?_)
        refine lv_goto (tgt := 24) hx hb dX6_fault_55 (by decide) ?_
        exact ih _ _ _ _ hS (lv_sub hl [0] rfl) h
set_option maxRecDepth 100000 in
set_option maxHeartbeats 4000000 in
theorem w_X6_fault (hi0 : S 200 = (24, 0)) {r : (Mem × Int32)} (h : f_X6_fault σ = some r) : Met l yX6_fault (ws_ yX6_fault cX6_fault 1 (some .int)) rm_X6_fault (va_Pc [.ref (ad 200)] (PreG D (Ew D A) A ad S σ)) (QG D A ad S (some (.int r.2)) r.1) 0 0 A := by
  refine y_met (by decide) (Nat.le_of_ble_eq_true rfl) (fun p e s m below meth c ls Z hS hl => ?_)
  have hx := Z.1
  have hb := Z.2.1
  have hown := Z.2.2.2.2.2.1
  have hts := Z.2.2.2.2.2.2.1
  unfold f_X6_fault at h
  refine lv_aload_n hx hb dX6_fault_0 rfl (lv_at hl 0 rfl) ?_
  refine lv_iconst (v := (0 : Int32)) hx hb dX6_fault_1 (by decide) ?_
  refine h_putI Z hS cls_14 hi0 (by decide) rfl rfl rfl fl_X6_220_14 dX6_fault_2 h (fun σ1 H locs hS h => ?_)
  refine lv_aload_n hx hb dX6_fault_5 rfl (lv_at hl 0 rfl) ?_
  refine lv_iconst (v := (-1 : Int32)) hx hb dX6_fault_6 (by decide) ?_
  refine h_putI Z hS cls_14 hi0 (by decide) rfl rfl rfl fl_X6_223_14 dX6_fault_7 h (fun σ2 H locs hS h => ?_)
  refine lv_aload_n hx hb dX6_fault_10 rfl (lv_at hl 0 rfl) ?_
  refine lv_iconst (v := (0 : Int32)) hx hb dX6_fault_11 (by decide) ?_
  refine h_putI Z hS cls_14 hi0 (by decide) rfl rfl rfl fl_X6_229_14 dX6_fault_12 h (fun σ3 H locs hS h => ?_)
  refine lv_aload_n hx hb dX6_fault_15 rfl (lv_at hl 0 rfl) ?_
  refine lv_iconst (v := (0 : Int32)) hx hb dX6_fault_16 (by decide) ?_
  refine h_putI Z hS cls_14 hi0 (by decide) rfl rfl rfl fl_X6_226_14 dX6_fault_17 h (fun σ4 H locs hS h => ?_)
  refine lv_aload_n hx hb dX6_fault_20 rfl (lv_at hl 0 rfl) ?_
  refine h_cm hS h (fun z hz => h_rV (rest := []) Z hS hi0 rfl v_X6_287 (w_X6_clause hi0 hz) rfl rfl ⟨by decide, by decide⟩ rfl hl.1 rfl (Nat.le_of_ble_eq_true rfl) (Nat.zero_le _) (Nat.zero_le _) dX6_fault_21) (fun σ5 H locs hS h => ?_)
  refine w_X6_fault_L24 Z hi0 (fun σ14 H locs ls hS hl h => ?_) FU _ _ _ _ hS (lv_sub hl [0] rfl) h
  refine lv_aload_n hx hb dX6_fault_58 rfl (lv_at hl 0 rfl) ?_
  refine h_getI Z hS cls_14 hi0 (by decide) rfl fl_X6_223_14 dX6_fault_59 h (fun x15 h => ?_)
  refine lv_iconst (v := (-1 : Int32)) hx hb dX6_fault_62 (by decide) ?_
  refine lv_icmp_ne (tgt := 78) hx hb dX6_fault_63 (by decide) (fun c16 => ?_) (fun c16 => ?_)
  · have h := if_f h c16
    refine lv_aload_n hx hb dX6_fault_78 rfl (lv_at hl 0 rfl) ?_
    refine h_getI Z hS cls_14 hi0 (by decide) rfl fl_X6_223_14 dX6_fault_79 h (fun x23 h => ?_)
    exact h_iretm Z hS dX6_fault_82 h
  · have h := if_t h c16
    refine lv_aload_n hx hb dX6_fault_66 rfl (lv_at hl 0 rfl) ?_
    refine h_cim hS h (fun z hz => h_rV (rest := []) Z hS hi0 rfl v_X6_235 (w_X6_look hi0 hz) rfl rfl ⟨by decide, by decide⟩ rfl hl.1 rfl (Nat.le_of_ble_eq_true rfl) (Nat.zero_le _) (Nat.zero_le _) dX6_fault_67) (fun σ17 x18 H locs hS h => ?_)
    refine lv_iconst (v := (-1 : Int32)) hx hb dX6_fault_70 (by decide) ?_
    refine lv_icmp_eq (tgt := 78) hx hb dX6_fault_71 (by decide) (fun c19 => ?_) (fun c19 => ?_)
    · have h := if_t h c19
      refine lv_aload_n hx hb dX6_fault_78 rfl (lv_at hl 0 rfl) ?_
      refine h_getI Z hS cls_14 hi0 (by decide) rfl fl_X6_223_14 dX6_fault_79 h (fun x20 h => ?_)
      exact h_iretm Z hS dX6_fault_82 h
    · have h := if_f h c19
      refine lv_aload_n hx hb dX6_fault_74 rfl (lv_at hl 0 rfl) ?_
      refine h_cm hS h (fun z hz => h_rV (rest := []) Z hS hi0 rfl v_X6_232 (w_X6_bad hi0 hz) rfl rfl ⟨by decide, by decide⟩ rfl hl.1 rfl (Nat.le_of_ble_eq_true rfl) (Nat.zero_le _) (Nat.zero_le _) dX6_fault_75) (fun σ21 H locs hS h => ?_)
      refine lv_aload_n hx hb dX6_fault_78 rfl (lv_at hl 0 rfl) ?_
      refine h_getI Z hS cls_14 hi0 (by decide) rfl fl_X6_223_14 dX6_fault_79 h (fun x22 h => ?_)
      exact h_iretm Z hS dX6_fault_82 h
end
theorem dX6_rules_0 : decode cX6_rules 0 = .ok (.aload_n 0, 1) := by decide +kernel
theorem dX6_rules_1 : decode cX6_rules 1 = .ok (.getfield 290, 3) := by decide +kernel
theorem dX6_rules_4 : decode cX6_rules 4 = .ok (.bipush 12, 2) := by decide +kernel
theorem dX6_rules_6 : decode cX6_rules 6 = .ok (.if_icmp .eq 11, 3) := by decide +kernel
theorem dX6_rules_9 : decode cX6_rules 9 = .ok (.aload_n 0, 1) := by decide +kernel
theorem dX6_rules_10 : decode cX6_rules 10 = .ok (.invokevirtual 293, 3) := by decide +kernel
theorem dX6_rules_13 : decode cX6_rules 13 = .ok (.iconst (-1), 1) := by decide +kernel
theorem dX6_rules_14 : decode cX6_rules 14 = .ok (.if_icmp .eq 5, 3) := by decide +kernel
theorem dX6_rules_17 : decode cX6_rules 17 = .ok (.iconst (-1), 1) := by decide +kernel
theorem dX6_rules_18 : decode cX6_rules 18 = .ok (.ireturn, 1) := by decide +kernel
theorem dX6_rules_19 : decode cX6_rules 19 = .ok (.iconst 0, 1) := by decide +kernel
theorem dX6_rules_20 : decode cX6_rules 20 = .ok (.istore_n 1, 1) := by decide +kernel
theorem dX6_rules_21 : decode cX6_rules 21 = .ok (.iload_n 1, 1) := by decide +kernel
theorem dX6_rules_22 : decode cX6_rules 22 = .ok (.aload_n 0, 1) := by decide +kernel
theorem dX6_rules_23 : decode cX6_rules 23 = .ok (.getfield 226, 3) := by decide +kernel
theorem dX6_rules_26 : decode cX6_rules 26 = .ok (.if_icmp .ge 30, 3) := by decide +kernel
theorem dX6_rules_29 : decode cX6_rules 29 = .ok (.aload_n 0, 1) := by decide +kernel
theorem dX6_rules_30 : decode cX6_rules 30 = .ok (.getfield 83, 3) := by decide +kernel
theorem dX6_rules_33 : decode cX6_rules 33 = .ok (.sipush 420, 3) := by decide +kernel
theorem dX6_rules_36 : decode cX6_rules 36 = .ok (.aload_n 0, 1) := by decide +kernel
theorem dX6_rules_37 : decode cX6_rules 37 = .ok (.getfield 290, 3) := by decide +kernel
theorem dX6_rules_40 : decode cX6_rules 40 = .ok (.imul, 1) := by decide +kernel
theorem dX6_rules_41 : decode cX6_rules 41 = .ok (.iload_n 1, 1) := by decide +kernel
theorem dX6_rules_42 : decode cX6_rules 42 = .ok (.iadd, 1) := by decide +kernel
theorem dX6_rules_43 : decode cX6_rules 43 = .ok (.aload_n 0, 1) := by decide +kernel
theorem dX6_rules_44 : decode cX6_rules 44 = .ok (.getfield 80, 3) := by decide +kernel
theorem dX6_rules_47 : decode cX6_rules 47 = .ok (.iload_n 1, 1) := by decide +kernel
theorem dX6_rules_48 : decode cX6_rules 48 = .ok (.iaload, 1) := by decide +kernel
theorem dX6_rules_49 : decode cX6_rules 49 = .ok (.iastore, 1) := by decide +kernel
theorem dX6_rules_50 : decode cX6_rules 50 = .ok (.iinc 1 1, 3) := by decide +kernel
theorem dX6_rules_53 : decode cX6_rules 53 = .ok (.goto (-32), 3) := by decide +kernel
theorem dX6_rules_56 : decode cX6_rules 56 = .ok (.aload_n 0, 1) := by decide +kernel
theorem dX6_rules_57 : decode cX6_rules 57 = .ok (.getfield 86, 3) := by decide +kernel
theorem dX6_rules_60 : decode cX6_rules 60 = .ok (.aload_n 0, 1) := by decide +kernel
theorem dX6_rules_61 : decode cX6_rules 61 = .ok (.getfield 290, 3) := by decide +kernel
theorem dX6_rules_64 : decode cX6_rules 64 = .ok (.aload_n 0, 1) := by decide +kernel
theorem dX6_rules_65 : decode cX6_rules 65 = .ok (.getfield 226, 3) := by decide +kernel
theorem dX6_rules_68 : decode cX6_rules 68 = .ok (.iastore, 1) := by decide +kernel
theorem dX6_rules_69 : decode cX6_rules 69 = .ok (.aload_n 0, 1) := by decide +kernel
theorem dX6_rules_70 : decode cX6_rules 70 = .ok (.iconst 0, 1) := by decide +kernel
theorem dX6_rules_71 : decode cX6_rules 71 = .ok (.putfield 217, 3) := by decide +kernel
theorem dX6_rules_74 : decode cX6_rules 74 = .ok (.aload_n 0, 1) := by decide +kernel
theorem dX6_rules_75 : decode cX6_rules 75 = .ok (.dup, 1) := by decide +kernel
theorem dX6_rules_76 : decode cX6_rules 76 = .ok (.getfield 290, 3) := by decide +kernel
theorem dX6_rules_79 : decode cX6_rules 79 = .ok (.iconst 1, 1) := by decide +kernel
theorem dX6_rules_80 : decode cX6_rules 80 = .ok (.iadd, 1) := by decide +kernel
theorem dX6_rules_81 : decode cX6_rules 81 = .ok (.putfield 290, 3) := by decide +kernel
theorem dX6_rules_84 : decode cX6_rules 84 = .ok (.aload_n 0, 1) := by decide +kernel
theorem dX6_rules_85 : decode cX6_rules 85 = .ok (.getfield 290, 3) := by decide +kernel
theorem dX6_rules_88 : decode cX6_rules 88 = .ok (.iconst 1, 1) := by decide +kernel
theorem dX6_rules_89 : decode cX6_rules 89 = .ok (.isub, 1) := by decide +kernel
theorem dX6_rules_90 : decode cX6_rules 90 = .ok (.ireturn, 1) := by decide +kernel
abbrev rm_X6_rules : Room := k2_rm 326 6921
section
variable {p : Program} {l : Launch} {e : Env} {s : State} {m : MethodId} {args : Array Value} {below : List Frame} {meth : Method} {c : Code} {D : gD} {A : Nat → Prop} {ad : Nat → Nat} {S : Nat → Nat × Nat} {σ : Mem}
set_option maxRecDepth 100000 in
set_option maxHeartbeats 4000000 in
theorem w_X6_rules_L21 (Z : Cz D (Ew D A) A cX6_rules 2 (some .int) RX6 p s m args meth c) (hu0 : S 200 = (24, 0)) {r : (Mem × Int32)} {k56 : Mem → Option (Mem × Int32)}
    (hk56 : ∀ (σ : Mem)  (H : Heap) (locs : List Loc) (ls : Array Slot), St D A ad S σ s.heap H locs → lv_has ls 2 [(0, .ref (ad 200))] → k56 σ = some r → W p l e rm_X6_rules s m args below meth c H locs 0 0 (MQ below (QG D A ad S (some (.int r.2)) r.1) args s 0 0 A) (F0 m 56 ls [])) :
    ∀ (n : Nat) (σ : Mem) (v1 : Int32) (H : Heap) (locs : List Loc) (ls : Array Slot), St D A ad S σ s.heap H locs → lv_has ls 2 [(0, .ref (ad 200)), (1, .int v1)] → f_X6_rules_L21 k56 n σ v1 = some r → W p l e rm_X6_rules s m args below meth c H locs 0 0 (MQ below (QG D A ad S (some (.int r.2)) r.1) args s 0 0 A) (F0 m 21 ls []) := by
  have hx := Z.1
  have hb := Z.2.1
  have hown := Z.2.2.2.2.2.1
  have hts := Z.2.2.2.2.2.2.1
  intro n
  induction n with
  | zero => intro σ v1 H locs ls hS hl h; cases h
  | succ n ih =>
    intro σ v1 H locs ls hS hl h
    unfold f_X6_rules_L21 at h
    refine lv_iload_n hx hb dX6_rules_21 rfl (lv_at hl 1 rfl) ?_
    refine lv_aload_n hx hb dX6_rules_22 rfl (lv_at hl 0 rfl) ?_
    refine h_getI Z hS cls_14 hu0 (by decide) rfl fl_X6_226_14 dX6_rules_23 h (fun x6 h => ?_)
    refine lv_icmp_ge (tgt := 56) hx hb dX6_rules_26 (by decide) (fun c7 => ?_) (fun c7 => ?_)
    · have h := if_t h c7
      exact hk56 _ _ _ _ hS (lv_sub hl [0] rfl) h
    · have h := if_f h c7
      refine lv_aload_n hx hb dX6_rules_29 rfl (lv_at hl 0 rfl) ?_
      refine h_getC (n := 28) (j := 228) (sh := (1, 5040)) Z hS cls_14 hu0 (by decide) rfl rfl rfl fl_X6_83_14 dX6_rules_30 (fun hc8 => ?_)
      refine lv_sipush (v := (420 : Int32)) hx hb dX6_rules_33 (by decide) ?_
      refine lv_aload_n hx hb dX6_rules_36 rfl (lv_at hl 0 rfl) ?_
      refine h_getI Z hS cls_14 hu0 (by decide) rfl fl_X6_290_14 dX6_rules_37 h (fun x9 h => ?_)
      refine lv_imul hx hb dX6_rules_40 ?_
      refine lv_iload_n hx hb dX6_rules_41 rfl (lv_at hl 1 rfl) ?_
      refine lv_iadd hx hb dX6_rules_42 ?_
      refine lv_aload_n hx hb dX6_rules_43 rfl (lv_at hl 0 rfl) ?_
      refine h_getC (n := 27) (j := 227) (sh := (1, 420)) Z hS cls_14 hu0 (by decide) rfl rfl rfl fl_X6_80_14 dX6_rules_44 (fun hc10 => ?_)
      refine lv_iload_n hx hb dX6_rules_47 rfl (lv_at hl 1 rfl) ?_
      refine h_iald Z hS hc10 dX6_rules_48 h (fun x11 h => ?_)
      refine h_iast Z hS hc8 dX6_rules_49 h (fun σ12 H locs hS h => ?_)
      refine lv_iinc (v := (v1 + (1 : Int32))) (lv' := [(1, .int (v1 + (1 : Int32))), (0, .ref (ad 200))]) hx hb dX6_rules_50 hl (k := 1) rfl rfl (by decide) rfl (fun ls hl => ?_)
      refine lv_goto (tgt := 21) hx hb dX6_rules_53 (by decide) ?_
      exact ih _ _ _ _ _ hS (lv_sub hl [1, 0] rfl) h
set_option maxRecDepth 100000 in
set_option maxHeartbeats 4000000 in
theorem w_X6_rules (hi0 : S 200 = (24, 0)) {r : (Mem × Int32)} (h : f_X6_rules σ = some r) : Met l yX6_rules (ws_ yX6_rules cX6_rules 2 (some .int)) rm_X6_rules (va_Pc [.ref (ad 200)] (PreG D (Ew D A) A ad S σ)) (QG D A ad S (some (.int r.2)) r.1) 0 0 A := by
  refine y_met (by decide) (Nat.le_of_ble_eq_true rfl) (fun p e s m below meth c ls Z hS hl => ?_)
  have hx := Z.1
  have hb := Z.2.1
  have hown := Z.2.2.2.2.2.1
  have hts := Z.2.2.2.2.2.2.1
  unfold f_X6_rules at h
  refine lv_aload_n hx hb dX6_rules_0 rfl (lv_at hl 0 rfl) ?_
  refine h_getI Z hS cls_14 hi0 (by decide) rfl fl_X6_290_14 dX6_rules_1 h (fun x1 h => ?_)
  refine lv_bipush (v := (12 : Int32)) hx hb dX6_rules_4 (by decide) ?_
  refine lv_icmp_eq (tgt := 17) hx hb dX6_rules_6 (by decide) (fun c2 => ?_) (fun c2 => ?_)
  · have h := if_t h c2
    refine lv_iconst (v := (-1 : Int32)) hx hb dX6_rules_17 (by decide) ?_
    exact h_iretm Z hS dX6_rules_18 h
  · have h := if_f h c2
    refine lv_aload_n hx hb dX6_rules_9 rfl (lv_at hl 0 rfl) ?_
    refine h_cim hS h (fun z hz => h_rV (rest := []) Z hS hi0 rfl v_X6_293 (w_X6_fault hi0 hz) rfl rfl ⟨by decide, by decide⟩ rfl hl.1 rfl (Nat.le_of_ble_eq_true rfl) (Nat.zero_le _) (Nat.zero_le _) dX6_rules_10) (fun σ3 x4 H locs hS h => ?_)
    refine lv_iconst (v := (-1 : Int32)) hx hb dX6_rules_13 (by decide) ?_
    refine lv_icmp_eq (tgt := 19) hx hb dX6_rules_14 (by decide) (fun c5 => ?_) (fun c5 => ?_)
    · have h := if_t h c5
      refine lv_iconst (v := (0 : Int32)) hx hb dX6_rules_19 (by decide) ?_
      refine lv_istore_n (lv' := [(1, .int (0 : Int32)), (0, .ref (ad 200))]) hx hb dX6_rules_20 rfl hl (by decide) rfl (fun ls hl => ?_)
      refine w_X6_rules_L21 Z hi0 (fun σ13 H locs ls hS hl h => ?_) FU _ _ _ _ _ hS (lv_sub hl [1, 0] rfl) h
      refine lv_aload_n hx hb dX6_rules_56 rfl (lv_at hl 0 rfl) ?_
      refine h_getC (n := 29) (j := 229) (sh := (1, 12)) Z hS cls_14 hi0 (by decide) rfl rfl rfl fl_X6_86_14 dX6_rules_57 (fun hc14 => ?_)
      refine lv_aload_n hx hb dX6_rules_60 rfl (lv_at hl 0 rfl) ?_
      refine h_getI Z hS cls_14 hi0 (by decide) rfl fl_X6_290_14 dX6_rules_61 h (fun x15 h => ?_)
      refine lv_aload_n hx hb dX6_rules_64 rfl (lv_at hl 0 rfl) ?_
      refine h_getI Z hS cls_14 hi0 (by decide) rfl fl_X6_226_14 dX6_rules_65 h (fun x16 h => ?_)
      refine h_iast Z hS hc14 dX6_rules_68 h (fun σ17 H locs hS h => ?_)
      refine lv_aload_n hx hb dX6_rules_69 rfl (lv_at hl 0 rfl) ?_
      refine lv_iconst (v := (0 : Int32)) hx hb dX6_rules_70 (by decide) ?_
      refine h_putI Z hS cls_14 hi0 (by decide) rfl rfl rfl fl_X6_217_14 dX6_rules_71 h (fun σ18 H locs hS h => ?_)
      refine lv_aload_n hx hb dX6_rules_74 rfl (lv_at hl 0 rfl) ?_
      refine lv_dup hx hb dX6_rules_75 rfl ?_
      refine h_getI Z hS cls_14 hi0 (by decide) rfl fl_X6_290_14 dX6_rules_76 h (fun x19 h => ?_)
      refine lv_iconst (v := (1 : Int32)) hx hb dX6_rules_79 (by decide) ?_
      refine lv_iadd hx hb dX6_rules_80 ?_
      refine h_putI Z hS cls_14 hi0 (by decide) rfl rfl rfl fl_X6_290_14 dX6_rules_81 h (fun σ20 H locs hS h => ?_)
      refine lv_aload_n hx hb dX6_rules_84 rfl (lv_at hl 0 rfl) ?_
      refine h_getI Z hS cls_14 hi0 (by decide) rfl fl_X6_290_14 dX6_rules_85 h (fun x21 h => ?_)
      refine lv_iconst (v := (1 : Int32)) hx hb dX6_rules_88 (by decide) ?_
      refine lv_isub hx hb dX6_rules_89 ?_
      exact h_iretm Z hS dX6_rules_90 h
    · have h := if_f h c5
      refine lv_iconst (v := (-1 : Int32)) hx hb dX6_rules_17 (by decide) ?_
      exact h_iretm Z hS dX6_rules_18 h
end
theorem dX6_rule_0 : decode cX6_rule 0 = .ok (.aload_n 0, 1) := by decide +kernel
theorem dX6_rule_1 : decode cX6_rule 1 = .ok (.iload_n 1, 1) := by decide +kernel
theorem dX6_rule_2 : decode cX6_rule 2 = .ok (.invokevirtual 168, 3) := by decide +kernel
theorem dX6_rule_5 : decode cX6_rule 5 = .ok (.ifCond .eq 17, 3) := by decide +kernel
theorem dX6_rule_8 : decode cX6_rule 8 = .ok (.iload_n 2, 1) := by decide +kernel
theorem dX6_rule_9 : decode cX6_rule 9 = .ok (.iconst (-1), 1) := by decide +kernel
theorem dX6_rule_10 : decode cX6_rule 10 = .ok (.aload_n 0, 1) := by decide +kernel
theorem dX6_rule_11 : decode cX6_rule 11 = .ok (.getfield 290, 3) := by decide +kernel
theorem dX6_rule_14 : decode cX6_rule 14 = .ok (.iconst 1, 1) := by decide +kernel
theorem dX6_rule_15 : decode cX6_rule 15 = .ok (.isub, 1) := by decide +kernel
theorem dX6_rule_16 : decode cX6_rule 16 = .ok (.invokestatic 161, 3) := by decide +kernel
theorem dX6_rule_19 : decode cX6_rule 19 = .ok (.ifCond .ne 5, 3) := by decide +kernel
theorem dX6_rule_22 : decode cX6_rule 22 = .ok (.iconst 0, 1) := by decide +kernel
theorem dX6_rule_23 : decode cX6_rule 23 = .ok (.ireturn, 1) := by decide +kernel
theorem dX6_rule_24 : decode cX6_rule 24 = .ok (.aload_n 0, 1) := by decide +kernel
theorem dX6_rule_25 : decode cX6_rule 25 = .ok (.getfield 58, 3) := by decide +kernel
theorem dX6_rule_28 : decode cX6_rule 28 = .ok (.iload_n 1, 1) := by decide +kernel
theorem dX6_rule_29 : decode cX6_rule 29 = .ok (.iload_n 2, 1) := by decide +kernel
theorem dX6_rule_30 : decode cX6_rule 30 = .ok (.iastore, 1) := by decide +kernel
theorem dX6_rule_31 : decode cX6_rule 31 = .ok (.iconst 1, 1) := by decide +kernel
theorem dX6_rule_32 : decode cX6_rule 32 = .ok (.ireturn, 1) := by decide +kernel
abbrev rm_X6_rule : Room := k2_rm 2 43
section
variable {p : Program} {l : Launch} {e : Env} {s : State} {m : MethodId} {args : Array Value} {below : List Frame} {meth : Method} {c : Code} {D : gD} {A : Nat → Prop} {ad : Nat → Nat} {S : Nat → Nat × Nat} {σ : Mem}
set_option maxRecDepth 100000 in
set_option maxHeartbeats 4000000 in
theorem w_X6_rule {a1 : Int32} {a2 : Int32} (hi0 : S 200 = (24, 0)) {r : (Mem × Int32)} (h : f_X6_rule σ a1 a2 = some r) : Met l yX6_rule (ws_ yX6_rule cX6_rule 3 (some .boolean)) rm_X6_rule (va_Pc [.ref (ad 200), .int a1, .int a2] (PreG D (Ew D A) A ad S σ)) (QG D A ad S (some (.int r.2)) r.1) 0 0 A := by
  refine y_met (by decide) (Nat.le_of_ble_eq_true rfl) (fun p e s m below meth c ls Z hS hl => ?_)
  have hx := Z.1
  have hb := Z.2.1
  have hown := Z.2.2.2.2.2.1
  have hts := Z.2.2.2.2.2.2.1
  unfold f_X6_rule at h
  refine lv_aload_n hx hb dX6_rule_0 rfl (lv_at hl 0 rfl) ?_
  refine lv_iload_n hx hb dX6_rule_1 rfl (lv_at hl 1 rfl) ?_
  refine h_ci hS h (fun z hz => h_rV (rest := []) Z hS hi0 rfl v_X6_168 (w_X6_isFilter hi0 hz) rfl rfl ⟨by decide, by decide⟩ rfl hl.1 rfl (Nat.le_of_ble_eq_true rfl) (Nat.zero_le _) (Nat.zero_le _) dX6_rule_2) (fun x1 H locs hS h => ?_)
  refine lv_if_eq (tgt := 22) hx hb dX6_rule_5 (by decide) (fun c2 => ?_) (fun c2 => ?_)
  · have h := if_t h c2
    refine lv_iconst (v := (0 : Int32)) hx hb dX6_rule_22 (by decide) ?_
    exact h_zretm Z hS dX6_rule_23 h
  · have h := if_f h c2
    refine lv_iload_n hx hb dX6_rule_8 rfl (lv_at hl 2 rfl) ?_
    refine lv_iconst (v := (-1 : Int32)) hx hb dX6_rule_9 (by decide) ?_
    refine lv_aload_n hx hb dX6_rule_10 rfl (lv_at hl 0 rfl) ?_
    refine h_getI Z hS cls_14 hi0 (by decide) rfl fl_X6_290_14 dX6_rule_11 h (fun x3 h => ?_)
    refine lv_iconst (v := (1 : Int32)) hx hb dX6_rule_14 (by decide) ?_
    refine lv_isub hx hb dX6_rule_15 ?_
    refine h_ci hS h (fun z hz => h_rS (rest := []) Z hS v_X6_161 (w_X6_in hz) rfl rfl ⟨by decide, by decide⟩ rfl hl.1 rfl (Nat.le_of_ble_eq_true rfl) (Nat.zero_le _) (Nat.zero_le _) dX6_rule_16) (fun x4 H locs hS h => ?_)
    refine lv_if_ne (tgt := 24) hx hb dX6_rule_19 (by decide) (fun c5 => ?_) (fun c5 => ?_)
    · have h := if_f h c5
      refine lv_aload_n hx hb dX6_rule_24 rfl (lv_at hl 0 rfl) ?_
      refine h_getC (n := 19) (j := 219) (sh := (1, 9)) Z hS cls_14 hi0 (by decide) rfl rfl rfl fl_X6_58_14 dX6_rule_25 (fun hc6 => ?_)
      refine lv_iload_n hx hb dX6_rule_28 rfl (lv_at hl 1 rfl) ?_
      refine lv_iload_n hx hb dX6_rule_29 rfl (lv_at hl 2 rfl) ?_
      refine h_iast Z hS hc6 dX6_rule_30 h (fun σ7 H locs hS h => ?_)
      refine lv_iconst (v := (1 : Int32)) hx hb dX6_rule_31 (by decide) ?_
      exact h_zretm Z hS dX6_rule_32 h
    · have h := if_t h c5
      refine lv_iconst (v := (0 : Int32)) hx hb dX6_rule_22 (by decide) ?_
      exact h_zretm Z hS dX6_rule_23 h
end
theorem dX6_bounded_0 : decode cX6_bounded 0 = .ok (.ldc2_w 296, 3) := by decide +kernel
theorem dX6_bounded_3 : decode cX6_bounded 3 = .ok (.ldc2_w 298, 3) := by decide +kernel
theorem dX6_bounded_6 : decode cX6_bounded 6 = .ok (.lload_n 0, 1) := by decide +kernel
theorem dX6_bounded_7 : decode cX6_bounded 7 = .ok (.invokestatic 300, 3) := by decide +kernel
theorem dX6_bounded_10 : decode cX6_bounded 10 = .ok (.invokestatic 201, 3) := by decide +kernel
theorem dX6_bounded_13 : decode cX6_bounded 13 = .ok (.l2i, 1) := by decide +kernel
theorem dX6_bounded_14 : decode cX6_bounded 14 = .ok (.ireturn, 1) := by decide +kernel
abbrev rm_X6_bounded : Room := k2_rm 1 17
section
variable {p : Program} {l : Launch} {e : Env} {s : State} {m : MethodId} {args : Array Value} {below : List Frame} {meth : Method} {c : Code} {D : gD} {A : Nat → Prop} {ad : Nat → Nat} {S : Nat → Nat × Nat} {σ : Mem}
set_option maxRecDepth 100000 in
set_option maxHeartbeats 4000000 in
theorem w_X6_bounded {a1 : Int64} {r : Int32} (h : f_X6_bounded σ a1 = some r) : Met l yX6_bounded (ws_ yX6_bounded cX6_bounded 2 (some .int)) rm_X6_bounded (va_Pc [.long a1] (PreG D (Ew D A) A ad S σ)) (QG D A ad S (some (.int r)) σ) 0 0 A := by
  refine y_met (by decide) (Nat.le_of_ble_eq_true rfl) (fun p e s m below meth c ls Z hS hl => ?_)
  have hx := Z.1
  have hb := Z.2.1
  have hown := Z.2.2.2.2.2.1
  have hts := Z.2.2.2.2.2.2.1
  unfold f_X6_bounded at h
  refine lv_ldc2 (v := (-1000000 : Int64)) hx hb hown (hts _ q1566) dX6_bounded_0 ?_
  refine lv_ldc2 (v := (1000000 : Int64)) hx hb hown (hts _ q1567) dX6_bounded_3 ?_
  refine lv_lload_n hx hb dX6_bounded_6 rfl (lv_at hl 0 rfl) ?_
  refine y_lmin hx hb (hl.1 ▸ Z.2.2.2.2.1) Z.2.2.2.2.2 q1568 (by decide) (Nat.le_of_ble_eq_true rfl) (Nat.zero_le _) (Nat.zero_le _) dX6_bounded_7 ?_
  refine y_lmax hx hb (hl.1 ▸ Z.2.2.2.2.1) Z.2.2.2.2.2 q1438 (by decide) (Nat.le_of_ble_eq_true rfl) (Nat.zero_le _) (Nat.zero_le _) dX6_bounded_10 ?_
  refine lv_l2i hx hb dX6_bounded_13 rfl ?_
  exact h_iret Z hS dX6_bounded_14 h
end
theorem dX6_both_0 : decode cX6_both 0 = .ok (.iload_n 0, 1) := by decide +kernel
theorem dX6_both_1 : decode cX6_both 1 = .ok (.tableswitch 206 38 62 #[192, 206, 206, 206, 133, 115, 206, 124, 206, 142, 206, 206, 206, 206, 206, 206, 206, 206, 206, 206, 206, 206, 170, 159, 181], 115) := by decide +kernel
theorem dX6_both_116 : decode cX6_both 116 = .ok (.iload_n 1, 1) := by decide +kernel
theorem dX6_both_117 : decode cX6_both 117 = .ok (.i2l, 1) := by decide +kernel
theorem dX6_both_118 : decode cX6_both 118 = .ok (.iload_n 2, 1) := by decide +kernel
theorem dX6_both_119 : decode cX6_both 119 = .ok (.i2l, 1) := by decide +kernel
theorem dX6_both_120 : decode cX6_both 120 = .ok (.ladd, 1) := by decide +kernel
theorem dX6_both_121 : decode cX6_both 121 = .ok (.invokestatic 303, 3) := by decide +kernel
theorem dX6_both_124 : decode cX6_both 124 = .ok (.ireturn, 1) := by decide +kernel
theorem dX6_both_125 : decode cX6_both 125 = .ok (.iload_n 1, 1) := by decide +kernel
theorem dX6_both_126 : decode cX6_both 126 = .ok (.i2l, 1) := by decide +kernel
theorem dX6_both_127 : decode cX6_both 127 = .ok (.iload_n 2, 1) := by decide +kernel
theorem dX6_both_128 : decode cX6_both 128 = .ok (.i2l, 1) := by decide +kernel
theorem dX6_both_129 : decode cX6_both 129 = .ok (.lsub, 1) := by decide +kernel
theorem dX6_both_130 : decode cX6_both 130 = .ok (.invokestatic 303, 3) := by decide +kernel
theorem dX6_both_133 : decode cX6_both 133 = .ok (.ireturn, 1) := by decide +kernel
theorem dX6_both_134 : decode cX6_both 134 = .ok (.iload_n 1, 1) := by decide +kernel
theorem dX6_both_135 : decode cX6_both 135 = .ok (.i2l, 1) := by decide +kernel
theorem dX6_both_136 : decode cX6_both 136 = .ok (.iload_n 2, 1) := by decide +kernel
theorem dX6_both_137 : decode cX6_both 137 = .ok (.i2l, 1) := by decide +kernel
theorem dX6_both_138 : decode cX6_both 138 = .ok (.lmul, 1) := by decide +kernel
theorem dX6_both_139 : decode cX6_both 139 = .ok (.invokestatic 303, 3) := by decide +kernel
theorem dX6_both_142 : decode cX6_both 142 = .ok (.ireturn, 1) := by decide +kernel
theorem dX6_both_143 : decode cX6_both 143 = .ok (.iload_n 2, 1) := by decide +kernel
theorem dX6_both_144 : decode cX6_both 144 = .ok (.ifCond .ne 7, 3) := by decide +kernel
theorem dX6_both_147 : decode cX6_both 147 = .ok (.iconst 0, 1) := by decide +kernel
theorem dX6_both_148 : decode cX6_both 148 = .ok (.goto 11, 3) := by decide +kernel
theorem dX6_both_151 : decode cX6_both 151 = .ok (.iload_n 1, 1) := by decide +kernel
theorem dX6_both_152 : decode cX6_both 152 = .ok (.i2l, 1) := by decide +kernel
theorem dX6_both_153 : decode cX6_both 153 = .ok (.iload_n 2, 1) := by decide +kernel
theorem dX6_both_154 : decode cX6_both 154 = .ok (.i2l, 1) := by decide +kernel
theorem dX6_both_155 : decode cX6_both 155 = .ok (.ldiv, 1) := by decide +kernel
theorem dX6_both_156 : decode cX6_both 156 = .ok (.invokestatic 303, 3) := by decide +kernel
theorem dX6_both_159 : decode cX6_both 159 = .ok (.ireturn, 1) := by decide +kernel
theorem dX6_both_160 : decode cX6_both 160 = .ok (.iload_n 1, 1) := by decide +kernel
theorem dX6_both_161 : decode cX6_both 161 = .ok (.iload_n 2, 1) := by decide +kernel
theorem dX6_both_162 : decode cX6_both 162 = .ok (.if_icmp .ne 7, 3) := by decide +kernel
theorem dX6_both_165 : decode cX6_both 165 = .ok (.iconst 1, 1) := by decide +kernel
theorem dX6_both_166 : decode cX6_both 166 = .ok (.goto 4, 3) := by decide +kernel
theorem dX6_both_169 : decode cX6_both 169 = .ok (.iconst 0, 1) := by decide +kernel
theorem dX6_both_170 : decode cX6_both 170 = .ok (.ireturn, 1) := by decide +kernel
theorem dX6_both_171 : decode cX6_both 171 = .ok (.iload_n 1, 1) := by decide +kernel
theorem dX6_both_172 : decode cX6_both 172 = .ok (.iload_n 2, 1) := by decide +kernel
theorem dX6_both_173 : decode cX6_both 173 = .ok (.if_icmp .ge 7, 3) := by decide +kernel
theorem dX6_both_176 : decode cX6_both 176 = .ok (.iconst 1, 1) := by decide +kernel
theorem dX6_both_177 : decode cX6_both 177 = .ok (.goto 4, 3) := by decide +kernel
theorem dX6_both_180 : decode cX6_both 180 = .ok (.iconst 0, 1) := by decide +kernel
theorem dX6_both_181 : decode cX6_both 181 = .ok (.ireturn, 1) := by decide +kernel
theorem dX6_both_182 : decode cX6_both 182 = .ok (.iload_n 1, 1) := by decide +kernel
theorem dX6_both_183 : decode cX6_both 183 = .ok (.iload_n 2, 1) := by decide +kernel
theorem dX6_both_184 : decode cX6_both 184 = .ok (.if_icmp .le 7, 3) := by decide +kernel
theorem dX6_both_187 : decode cX6_both 187 = .ok (.iconst 1, 1) := by decide +kernel
theorem dX6_both_188 : decode cX6_both 188 = .ok (.goto 4, 3) := by decide +kernel
theorem dX6_both_191 : decode cX6_both 191 = .ok (.iconst 0, 1) := by decide +kernel
theorem dX6_both_192 : decode cX6_both 192 = .ok (.ireturn, 1) := by decide +kernel
theorem dX6_both_193 : decode cX6_both 193 = .ok (.iload_n 1, 1) := by decide +kernel
theorem dX6_both_194 : decode cX6_both 194 = .ok (.ifCond .eq 11, 3) := by decide +kernel
theorem dX6_both_197 : decode cX6_both 197 = .ok (.iload_n 2, 1) := by decide +kernel
theorem dX6_both_198 : decode cX6_both 198 = .ok (.ifCond .eq 7, 3) := by decide +kernel
theorem dX6_both_201 : decode cX6_both 201 = .ok (.iconst 1, 1) := by decide +kernel
theorem dX6_both_202 : decode cX6_both 202 = .ok (.goto 4, 3) := by decide +kernel
theorem dX6_both_205 : decode cX6_both 205 = .ok (.iconst 0, 1) := by decide +kernel
theorem dX6_both_206 : decode cX6_both 206 = .ok (.ireturn, 1) := by decide +kernel
theorem dX6_both_207 : decode cX6_both 207 = .ok (.iload_n 1, 1) := by decide +kernel
theorem dX6_both_208 : decode cX6_both 208 = .ok (.ifCond .ne 7, 3) := by decide +kernel
theorem dX6_both_211 : decode cX6_both 211 = .ok (.iload_n 2, 1) := by decide +kernel
theorem dX6_both_212 : decode cX6_both 212 = .ok (.ifCond .eq 7, 3) := by decide +kernel
theorem dX6_both_215 : decode cX6_both 215 = .ok (.iconst 1, 1) := by decide +kernel
theorem dX6_both_216 : decode cX6_both 216 = .ok (.goto 4, 3) := by decide +kernel
theorem dX6_both_219 : decode cX6_both 219 = .ok (.iconst 0, 1) := by decide +kernel
theorem dX6_both_220 : decode cX6_both 220 = .ok (.ireturn, 1) := by decide +kernel
abbrev rm_X6_both : Room := k2_rm 2 38
section
variable {p : Program} {l : Launch} {e : Env} {s : State} {m : MethodId} {args : Array Value} {below : List Frame} {meth : Method} {c : Code} {D : gD} {A : Nat → Prop} {ad : Nat → Nat} {S : Nat → Nat × Nat} {σ : Mem}
set_option maxRecDepth 100000 in
set_option maxHeartbeats 4000000 in
theorem w_X6_both {a1 : Int32} {a2 : Int32} {a3 : Int32} {r : Int32} (h : f_X6_both σ a1 a2 a3 = some r) : Met l yX6_both (ws_ yX6_both cX6_both 3 (some .int)) rm_X6_both (va_Pc [.int a1, .int a2, .int a3] (PreG D (Ew D A) A ad S σ)) (QG D A ad S (some (.int r)) σ) 0 0 A := by
  refine y_met (by decide) (Nat.le_of_ble_eq_true rfl) (fun p e s m below meth c ls Z hS hl => ?_)
  have hx := Z.1
  have hb := Z.2.1
  have hown := Z.2.2.2.2.2.1
  have hts := Z.2.2.2.2.2.2.1
  unfold f_X6_both at h
  refine lv_iload_n hx hb dX6_both_0 rfl (lv_at hl 0 rfl) ?_
  by_cases c1_38 : a1 = (38 : Int32)
  · refine h_tsw (k := (38 : Int32)) (off := 192) (tgt := 193) Z dX6_both_1 c1_38 (by decide) (by decide) rfl (by decide) ?_
    have h := if_t h c1_38
    refine lv_iload_n hx hb dX6_both_193 rfl (lv_at hl 1 rfl) ?_
    refine lv_if_eq (tgt := 205) hx hb dX6_both_194 (by decide) (fun c2 => ?_) (fun c2 => ?_)
    · have h := if_t h c2
      refine lv_iconst (v := (0 : Int32)) hx hb dX6_both_205 (by decide) ?_
      exact h_iret Z hS dX6_both_206 h
    · have h := if_f h c2
      refine lv_iload_n hx hb dX6_both_197 rfl (lv_at hl 2 rfl) ?_
      refine lv_if_eq (tgt := 205) hx hb dX6_both_198 (by decide) (fun c3 => ?_) (fun c3 => ?_)
      · have h := if_t h c3
        refine lv_iconst (v := (0 : Int32)) hx hb dX6_both_205 (by decide) ?_
        exact h_iret Z hS dX6_both_206 h
      · have h := if_f h c3
        refine lv_iconst (v := (1 : Int32)) hx hb dX6_both_201 (by decide) ?_
        refine lv_goto (tgt := 206) hx hb dX6_both_202 (by decide) ?_
        exact h_iret Z hS dX6_both_206 h
  replace h := if_f h c1_38
  by_cases c1_42 : a1 = (42 : Int32)
  · refine h_tsw (k := (42 : Int32)) (off := 133) (tgt := 134) Z dX6_both_1 c1_42 (by decide) (by decide) rfl (by decide) ?_
    have h := if_t h c1_42
    refine lv_iload_n hx hb dX6_both_134 rfl (lv_at hl 1 rfl) ?_
    refine lv_i2l hx hb dX6_both_135 rfl ?_
    refine lv_iload_n hx hb dX6_both_136 rfl (lv_at hl 2 rfl) ?_
    refine lv_i2l hx hb dX6_both_137 rfl ?_
    refine lv_lmul hx hb dX6_both_138 ?_
    refine h_ci hS h (fun z hz => h_rS (rest := []) Z hS v_X6_303 (w_X6_bounded hz) rfl rfl ⟨by decide, by decide⟩ rfl hl.1 rfl (Nat.le_of_ble_eq_true rfl) (Nat.zero_le _) (Nat.zero_le _) dX6_both_139) (fun x4 H locs hS h => ?_)
    exact h_iret Z hS dX6_both_142 h
  replace h := if_f h c1_42
  by_cases c1_43 : a1 = (43 : Int32)
  · refine h_tsw (k := (43 : Int32)) (off := 115) (tgt := 116) Z dX6_both_1 c1_43 (by decide) (by decide) rfl (by decide) ?_
    have h := if_t h c1_43
    refine lv_iload_n hx hb dX6_both_116 rfl (lv_at hl 1 rfl) ?_
    refine lv_i2l hx hb dX6_both_117 rfl ?_
    refine lv_iload_n hx hb dX6_both_118 rfl (lv_at hl 2 rfl) ?_
    refine lv_i2l hx hb dX6_both_119 rfl ?_
    refine lv_ladd hx hb dX6_both_120 ?_
    refine h_ci hS h (fun z hz => h_rS (rest := []) Z hS v_X6_303 (w_X6_bounded hz) rfl rfl ⟨by decide, by decide⟩ rfl hl.1 rfl (Nat.le_of_ble_eq_true rfl) (Nat.zero_le _) (Nat.zero_le _) dX6_both_121) (fun x5 H locs hS h => ?_)
    exact h_iret Z hS dX6_both_124 h
  replace h := if_f h c1_43
  by_cases c1_45 : a1 = (45 : Int32)
  · refine h_tsw (k := (45 : Int32)) (off := 124) (tgt := 125) Z dX6_both_1 c1_45 (by decide) (by decide) rfl (by decide) ?_
    have h := if_t h c1_45
    refine lv_iload_n hx hb dX6_both_125 rfl (lv_at hl 1 rfl) ?_
    refine lv_i2l hx hb dX6_both_126 rfl ?_
    refine lv_iload_n hx hb dX6_both_127 rfl (lv_at hl 2 rfl) ?_
    refine lv_i2l hx hb dX6_both_128 rfl ?_
    refine lv_lsub hx hb dX6_both_129 ?_
    refine h_ci hS h (fun z hz => h_rS (rest := []) Z hS v_X6_303 (w_X6_bounded hz) rfl rfl ⟨by decide, by decide⟩ rfl hl.1 rfl (Nat.le_of_ble_eq_true rfl) (Nat.zero_le _) (Nat.zero_le _) dX6_both_130) (fun x6 H locs hS h => ?_)
    exact h_iret Z hS dX6_both_133 h
  replace h := if_f h c1_45
  by_cases c1_47 : a1 = (47 : Int32)
  · refine h_tsw (k := (47 : Int32)) (off := 142) (tgt := 143) Z dX6_both_1 c1_47 (by decide) (by decide) rfl (by decide) ?_
    have h := if_t h c1_47
    refine lv_iload_n hx hb dX6_both_143 rfl (lv_at hl 2 rfl) ?_
    refine lv_if_ne (tgt := 151) hx hb dX6_both_144 (by decide) (fun c7 => ?_) (fun c7 => ?_)
    · have h := if_f h c7
      refine lv_iload_n hx hb dX6_both_151 rfl (lv_at hl 1 rfl) ?_
      refine lv_i2l hx hb dX6_both_152 rfl ?_
      refine lv_iload_n hx hb dX6_both_153 rfl (lv_at hl 2 rfl) ?_
      refine lv_i2l hx hb dX6_both_154 rfl ?_
      refine h_ldiv Z dX6_both_155 h (fun h => ?_)
      refine h_ci hS h (fun z hz => h_rS (rest := []) Z hS v_X6_303 (w_X6_bounded hz) rfl rfl ⟨by decide, by decide⟩ rfl hl.1 rfl (Nat.le_of_ble_eq_true rfl) (Nat.zero_le _) (Nat.zero_le _) dX6_both_156) (fun x8 H locs hS h => ?_)
      exact h_iret Z hS dX6_both_159 h
    · have h := if_t h c7
      refine lv_iconst (v := (0 : Int32)) hx hb dX6_both_147 (by decide) ?_
      refine lv_goto (tgt := 159) hx hb dX6_both_148 (by decide) ?_
      exact h_iret Z hS dX6_both_159 h
  replace h := if_f h c1_47
  by_cases c1_60 : a1 = (60 : Int32)
  · refine h_tsw (k := (60 : Int32)) (off := 170) (tgt := 171) Z dX6_both_1 c1_60 (by decide) (by decide) rfl (by decide) ?_
    have h := if_t h c1_60
    refine lv_iload_n hx hb dX6_both_171 rfl (lv_at hl 1 rfl) ?_
    refine lv_iload_n hx hb dX6_both_172 rfl (lv_at hl 2 rfl) ?_
    refine lv_icmp_ge (tgt := 180) hx hb dX6_both_173 (by decide) (fun c9 => ?_) (fun c9 => ?_)
    · have h := if_t h c9
      refine lv_iconst (v := (0 : Int32)) hx hb dX6_both_180 (by decide) ?_
      exact h_iret Z hS dX6_both_181 h
    · have h := if_f h c9
      refine lv_iconst (v := (1 : Int32)) hx hb dX6_both_176 (by decide) ?_
      refine lv_goto (tgt := 181) hx hb dX6_both_177 (by decide) ?_
      exact h_iret Z hS dX6_both_181 h
  replace h := if_f h c1_60
  by_cases c1_61 : a1 = (61 : Int32)
  · refine h_tsw (k := (61 : Int32)) (off := 159) (tgt := 160) Z dX6_both_1 c1_61 (by decide) (by decide) rfl (by decide) ?_
    have h := if_t h c1_61
    refine lv_iload_n hx hb dX6_both_160 rfl (lv_at hl 1 rfl) ?_
    refine lv_iload_n hx hb dX6_both_161 rfl (lv_at hl 2 rfl) ?_
    refine lv_icmp_ne (tgt := 169) hx hb dX6_both_162 (by decide) (fun c10 => ?_) (fun c10 => ?_)
    · have h := if_f h c10
      refine lv_iconst (v := (0 : Int32)) hx hb dX6_both_169 (by decide) ?_
      exact h_iret Z hS dX6_both_170 h
    · have h := if_t h c10
      refine lv_iconst (v := (1 : Int32)) hx hb dX6_both_165 (by decide) ?_
      refine lv_goto (tgt := 170) hx hb dX6_both_166 (by decide) ?_
      exact h_iret Z hS dX6_both_170 h
  replace h := if_f h c1_61
  by_cases c1_62 : a1 = (62 : Int32)
  · refine h_tsw (k := (62 : Int32)) (off := 181) (tgt := 182) Z dX6_both_1 c1_62 (by decide) (by decide) rfl (by decide) ?_
    have h := if_t h c1_62
    refine lv_iload_n hx hb dX6_both_182 rfl (lv_at hl 1 rfl) ?_
    refine lv_iload_n hx hb dX6_both_183 rfl (lv_at hl 2 rfl) ?_
    refine lv_icmp_le (tgt := 191) hx hb dX6_both_184 (by decide) (fun c11 => ?_) (fun c11 => ?_)
    · have h := if_t h c11
      refine lv_iconst (v := (0 : Int32)) hx hb dX6_both_191 (by decide) ?_
      exact h_iret Z hS dX6_both_192 h
    · have h := if_f h c11
      refine lv_iconst (v := (1 : Int32)) hx hb dX6_both_187 (by decide) ?_
      refine lv_goto (tgt := 192) hx hb dX6_both_188 (by decide) ?_
      exact h_iret Z hS dX6_both_192 h
  replace h := if_f h c1_62
  refine h_tswd (n := 24) (tgt := 207) Z dX6_both_1 (by decide) (fun t ht => ?_) (by decide) ?_
  · rcases (show t = 0 ∨ t = 1 ∨ t = 2 ∨ t = 3 ∨ t = 4 ∨ t = 5 ∨ t = 6 ∨ t = 7 ∨ t = 8 ∨ t = 9 ∨ t = 10 ∨ t = 11 ∨ t = 12 ∨ t = 13 ∨ t = 14 ∨ t = 15 ∨ t = 16 ∨ t = 17 ∨ t = 18 ∨ t = 19 ∨ t = 20 ∨ t = 21 ∨ t = 22 ∨ t = 23 ∨ t = 24 by omega) with rfl | rfl | rfl | rfl | rfl | rfl | rfl | rfl | rfl | rfl | rfl | rfl | rfl | rfl | rfl | rfl | rfl | rfl | rfl | rfl | rfl | rfl | rfl | rfl | rfl
    · exact Or.inr (ne_int c1_38 (by decide))
    · exact Or.inl rfl
    · exact Or.inl rfl
    · exact Or.inl rfl
    · exact Or.inr (ne_int c1_42 (by decide))
    · exact Or.inr (ne_int c1_43 (by decide))
    · exact Or.inl rfl
    · exact Or.inr (ne_int c1_45 (by decide))
    · exact Or.inl rfl
    · exact Or.inr (ne_int c1_47 (by decide))
    · exact Or.inl rfl
    · exact Or.inl rfl
    · exact Or.inl rfl
    · exact Or.inl rfl
    · exact Or.inl rfl
    · exact Or.inl rfl
    · exact Or.inl rfl
    · exact Or.inl rfl
    · exact Or.inl rfl
    · exact Or.inl rfl
    · exact Or.inl rfl
    · exact Or.inl rfl
    · exact Or.inr (ne_int c1_60 (by decide))
    · exact Or.inr (ne_int c1_61 (by decide))
    · exact Or.inr (ne_int c1_62 (by decide))
  refine lv_iload_n hx hb dX6_both_207 rfl (lv_at hl 1 rfl) ?_
  refine lv_if_ne (tgt := 215) hx hb dX6_both_208 (by decide) (fun c12 => ?_) (fun c12 => ?_)
  · have h := if_f h c12
    refine lv_iconst (v := (1 : Int32)) hx hb dX6_both_215 (by decide) ?_
    refine lv_goto (tgt := 220) hx hb dX6_both_216 (by decide) ?_
    exact h_iret Z hS dX6_both_220 h
  · have h := if_t h c12
    refine lv_iload_n hx hb dX6_both_211 rfl (lv_at hl 2 rfl) ?_
    refine lv_if_eq (tgt := 219) hx hb dX6_both_212 (by decide) (fun c13 => ?_) (fun c13 => ?_)
    · have h := if_t h c13
      refine lv_iconst (v := (0 : Int32)) hx hb dX6_both_219 (by decide) ?_
      exact h_iret Z hS dX6_both_220 h
    · have h := if_f h c13
      refine lv_iconst (v := (1 : Int32)) hx hb dX6_both_215 (by decide) ?_
      refine lv_goto (tgt := 220) hx hb dX6_both_216 (by decide) ?_
      exact h_iret Z hS dX6_both_220 h
end
theorem dX6_work_0 : decode cX6_work 0 = .ok (.iconst 0, 1) := by decide +kernel
theorem dX6_work_1 : decode cX6_work 1 = .ok (.istore_n 1, 1) := by decide +kernel
theorem dX6_work_2 : decode cX6_work 2 = .ok (.aload_n 0, 1) := by decide +kernel
theorem dX6_work_3 : decode cX6_work 3 = .ok (.getfield 83, 3) := by decide +kernel
theorem dX6_work_6 : decode cX6_work 6 = .ok (.aload_n 0, 1) := by decide +kernel
theorem dX6_work_7 : decode cX6_work 7 = .ok (.getfield 307, 3) := by decide +kernel
theorem dX6_work_10 : decode cX6_work 10 = .ok (.iaload, 1) := by decide +kernel
theorem dX6_work_11 : decode cX6_work 11 = .ok (.iconst 2, 1) := by decide +kernel
theorem dX6_work_12 : decode cX6_work 12 = .ok (.if_icmp .eq 162, 3) := by decide +kernel
theorem dX6_work_15 : decode cX6_work 15 = .ok (.aload_n 0, 1) := by decide +kernel
theorem dX6_work_16 : decode cX6_work 16 = .ok (.getfield 83, 3) := by decide +kernel
theorem dX6_work_19 : decode cX6_work 19 = .ok (.aload_n 0, 1) := by decide +kernel
theorem dX6_work_20 : decode cX6_work 20 = .ok (.getfield 307, 3) := by decide +kernel
theorem dX6_work_23 : decode cX6_work 23 = .ok (.iaload, 1) := by decide +kernel
theorem dX6_work_24 : decode cX6_work 24 = .ok (.iconst 3, 1) := by decide +kernel
theorem dX6_work_25 : decode cX6_work 25 = .ok (.if_icmp .eq 149, 3) := by decide +kernel
theorem dX6_work_28 : decode cX6_work 28 = .ok (.aload_n 0, 1) := by decide +kernel
theorem dX6_work_29 : decode cX6_work 29 = .ok (.getfield 83, 3) := by decide +kernel
theorem dX6_work_32 : decode cX6_work 32 = .ok (.aload_n 0, 1) := by decide +kernel
theorem dX6_work_33 : decode cX6_work 33 = .ok (.getfield 307, 3) := by decide +kernel
theorem dX6_work_36 : decode cX6_work 36 = .ok (.iaload, 1) := by decide +kernel
theorem dX6_work_37 : decode cX6_work 37 = .ok (.istore_n 2, 1) := by decide +kernel
theorem dX6_work_38 : decode cX6_work 38 = .ok (.aload_n 0, 1) := by decide +kernel
theorem dX6_work_39 : decode cX6_work 39 = .ok (.dup, 1) := by decide +kernel
theorem dX6_work_40 : decode cX6_work 40 = .ok (.getfield 307, 3) := by decide +kernel
theorem dX6_work_43 : decode cX6_work 43 = .ok (.iconst 1, 1) := by decide +kernel
theorem dX6_work_44 : decode cX6_work 44 = .ok (.iadd, 1) := by decide +kernel
theorem dX6_work_45 : decode cX6_work 45 = .ok (.putfield 307, 3) := by decide +kernel
theorem dX6_work_48 : decode cX6_work 48 = .ok (.iload_n 2, 1) := by decide +kernel
theorem dX6_work_49 : decode cX6_work 49 = .ok (.ifCond .eq 8, 3) := by decide +kernel
theorem dX6_work_52 : decode cX6_work 52 = .ok (.iload_n 2, 1) := by decide +kernel
theorem dX6_work_53 : decode cX6_work 53 = .ok (.iconst 1, 1) := by decide +kernel
theorem dX6_work_54 : decode cX6_work 54 = .ok (.if_icmp .ne 55, 3) := by decide +kernel
theorem dX6_work_57 : decode cX6_work 57 = .ok (.aload_n 0, 1) := by decide +kernel
theorem dX6_work_58 : decode cX6_work 58 = .ok (.getfield 92, 3) := by decide +kernel
theorem dX6_work_61 : decode cX6_work 61 = .ok (.iload_n 1, 1) := by decide +kernel
theorem dX6_work_62 : decode cX6_work 62 = .ok (.iload_n 2, 1) := by decide +kernel
theorem dX6_work_63 : decode cX6_work 63 = .ok (.ifCond .ne 15, 3) := by decide +kernel
theorem dX6_work_66 : decode cX6_work 66 = .ok (.aload_n 0, 1) := by decide +kernel
theorem dX6_work_67 : decode cX6_work 67 = .ok (.getfield 83, 3) := by decide +kernel
theorem dX6_work_70 : decode cX6_work 70 = .ok (.aload_n 0, 1) := by decide +kernel
theorem dX6_work_71 : decode cX6_work 71 = .ok (.getfield 307, 3) := by decide +kernel
theorem dX6_work_74 : decode cX6_work 74 = .ok (.iaload, 1) := by decide +kernel
theorem dX6_work_75 : decode cX6_work 75 = .ok (.goto 17, 3) := by decide +kernel
theorem dX6_work_78 : decode cX6_work 78 = .ok (.aload_n 0, 1) := by decide +kernel
theorem dX6_work_79 : decode cX6_work 79 = .ok (.getfield 89, 3) := by decide +kernel
theorem dX6_work_82 : decode cX6_work 82 = .ok (.aload_n 0, 1) := by decide +kernel
theorem dX6_work_83 : decode cX6_work 83 = .ok (.getfield 83, 3) := by decide +kernel
theorem dX6_work_86 : decode cX6_work 86 = .ok (.aload_n 0, 1) := by decide +kernel
theorem dX6_work_87 : decode cX6_work 87 = .ok (.getfield 307, 3) := by decide +kernel
theorem dX6_work_90 : decode cX6_work 90 = .ok (.iaload, 1) := by decide +kernel
theorem dX6_work_91 : decode cX6_work 91 = .ok (.iaload, 1) := by decide +kernel
theorem dX6_work_92 : decode cX6_work 92 = .ok (.iastore, 1) := by decide +kernel
theorem dX6_work_93 : decode cX6_work 93 = .ok (.aload_n 0, 1) := by decide +kernel
theorem dX6_work_94 : decode cX6_work 94 = .ok (.dup, 1) := by decide +kernel
theorem dX6_work_95 : decode cX6_work 95 = .ok (.getfield 307, 3) := by decide +kernel
theorem dX6_work_98 : decode cX6_work 98 = .ok (.iconst 1, 1) := by decide +kernel
theorem dX6_work_99 : decode cX6_work 99 = .ok (.iadd, 1) := by decide +kernel
theorem dX6_work_100 : decode cX6_work 100 = .ok (.putfield 307, 3) := by decide +kernel
theorem dX6_work_103 : decode cX6_work 103 = .ok (.iinc 1 1, 3) := by decide +kernel
theorem dX6_work_106 : decode cX6_work 106 = .ok (.goto 65, 3) := by decide +kernel
theorem dX6_work_109 : decode cX6_work 109 = .ok (.iload_n 2, 1) := by decide +kernel
theorem dX6_work_110 : decode cX6_work 110 = .ok (.bipush 33, 2) := by decide +kernel
theorem dX6_work_112 : decode cX6_work 112 = .ok (.if_icmp .ne 30, 3) := by decide +kernel
theorem dX6_work_115 : decode cX6_work 115 = .ok (.aload_n 0, 1) := by decide +kernel
theorem dX6_work_116 : decode cX6_work 116 = .ok (.getfield 92, 3) := by decide +kernel
theorem dX6_work_119 : decode cX6_work 119 = .ok (.iload_n 1, 1) := by decide +kernel
theorem dX6_work_120 : decode cX6_work 120 = .ok (.iconst 1, 1) := by decide +kernel
theorem dX6_work_121 : decode cX6_work 121 = .ok (.isub, 1) := by decide +kernel
theorem dX6_work_122 : decode cX6_work 122 = .ok (.aload_n 0, 1) := by decide +kernel
theorem dX6_work_123 : decode cX6_work 123 = .ok (.getfield 92, 3) := by decide +kernel
theorem dX6_work_126 : decode cX6_work 126 = .ok (.iload_n 1, 1) := by decide +kernel
theorem dX6_work_127 : decode cX6_work 127 = .ok (.iconst 1, 1) := by decide +kernel
theorem dX6_work_128 : decode cX6_work 128 = .ok (.isub, 1) := by decide +kernel
theorem dX6_work_129 : decode cX6_work 129 = .ok (.iaload, 1) := by decide +kernel
theorem dX6_work_130 : decode cX6_work 130 = .ok (.ifCond .ne 7, 3) := by decide +kernel
theorem dX6_work_133 : decode cX6_work 133 = .ok (.iconst 1, 1) := by decide +kernel
theorem dX6_work_134 : decode cX6_work 134 = .ok (.goto 4, 3) := by decide +kernel
theorem dX6_work_137 : decode cX6_work 137 = .ok (.iconst 0, 1) := by decide +kernel
theorem dX6_work_138 : decode cX6_work 138 = .ok (.iastore, 1) := by decide +kernel
theorem dX6_work_139 : decode cX6_work 139 = .ok (.goto 32, 3) := by decide +kernel
theorem dX6_work_142 : decode cX6_work 142 = .ok (.iinc 1 (-1), 3) := by decide +kernel
theorem dX6_work_145 : decode cX6_work 145 = .ok (.aload_n 0, 1) := by decide +kernel
theorem dX6_work_146 : decode cX6_work 146 = .ok (.getfield 92, 3) := by decide +kernel
theorem dX6_work_149 : decode cX6_work 149 = .ok (.iload_n 1, 1) := by decide +kernel
theorem dX6_work_150 : decode cX6_work 150 = .ok (.iconst 1, 1) := by decide +kernel
theorem dX6_work_151 : decode cX6_work 151 = .ok (.isub, 1) := by decide +kernel
theorem dX6_work_152 : decode cX6_work 152 = .ok (.iload_n 2, 1) := by decide +kernel
theorem dX6_work_153 : decode cX6_work 153 = .ok (.aload_n 0, 1) := by decide +kernel
theorem dX6_work_154 : decode cX6_work 154 = .ok (.getfield 92, 3) := by decide +kernel
theorem dX6_work_157 : decode cX6_work 157 = .ok (.iload_n 1, 1) := by decide +kernel
theorem dX6_work_158 : decode cX6_work 158 = .ok (.iconst 1, 1) := by decide +kernel
theorem dX6_work_159 : decode cX6_work 159 = .ok (.isub, 1) := by decide +kernel
theorem dX6_work_160 : decode cX6_work 160 = .ok (.iaload, 1) := by decide +kernel
theorem dX6_work_161 : decode cX6_work 161 = .ok (.aload_n 0, 1) := by decide +kernel
theorem dX6_work_162 : decode cX6_work 162 = .ok (.getfield 92, 3) := by decide +kernel
theorem dX6_work_165 : decode cX6_work 165 = .ok (.iload_n 1, 1) := by decide +kernel
theorem dX6_work_166 : decode cX6_work 166 = .ok (.iaload, 1) := by decide +kernel
theorem dX6_work_167 : decode cX6_work 167 = .ok (.invokestatic 310, 3) := by decide +kernel
theorem dX6_work_170 : decode cX6_work 170 = .ok (.iastore, 1) := by decide +kernel
theorem dX6_work_171 : decode cX6_work 171 = .ok (.goto (-169), 3) := by decide +kernel
theorem dX6_work_174 : decode cX6_work 174 = .ok (.aload_n 0, 1) := by decide +kernel
theorem dX6_work_175 : decode cX6_work 175 = .ok (.dup, 1) := by decide +kernel
theorem dX6_work_176 : decode cX6_work 176 = .ok (.getfield 307, 3) := by decide +kernel
theorem dX6_work_179 : decode cX6_work 179 = .ok (.iconst 1, 1) := by decide +kernel
theorem dX6_work_180 : decode cX6_work 180 = .ok (.iadd, 1) := by decide +kernel
theorem dX6_work_181 : decode cX6_work 181 = .ok (.putfield 307, 3) := by decide +kernel
theorem dX6_work_184 : decode cX6_work 184 = .ok (.aload_n 0, 1) := by decide +kernel
theorem dX6_work_185 : decode cX6_work 185 = .ok (.getfield 92, 3) := by decide +kernel
theorem dX6_work_188 : decode cX6_work 188 = .ok (.iconst 0, 1) := by decide +kernel
theorem dX6_work_189 : decode cX6_work 189 = .ok (.iaload, 1) := by decide +kernel
theorem dX6_work_190 : decode cX6_work 190 = .ok (.ireturn, 1) := by decide +kernel
abbrev rm_X6_work : Room := k2_rm 3 60
section
variable {p : Program} {l : Launch} {e : Env} {s : State} {m : MethodId} {args : Array Value} {below : List Frame} {meth : Method} {c : Code} {D : gD} {A : Nat → Prop} {ad : Nat → Nat} {S : Nat → Nat × Nat} {σ : Mem}
set_option maxRecDepth 100000 in
set_option maxHeartbeats 4000000 in
theorem w_X6_work_L2 (Z : Cz D (Ew D A) A cX6_work 3 (some .int) RX6 p s m args meth c) (hu0 : S 200 = (24, 0)) {r : (Mem × Int32)} {k174 : Mem → Option (Mem × Int32)}
    (hk174 : ∀ (σ : Mem)  (H : Heap) (locs : List Loc) (ls : Array Slot), St D A ad S σ s.heap H locs → lv_has ls 3 [(0, .ref (ad 200))] → k174 σ = some r → W p l e rm_X6_work s m args below meth c H locs 0 0 (MQ below (QG D A ad S (some (.int r.2)) r.1) args s 0 0 A) (F0 m 174 ls [])) :
    ∀ (n : Nat) (σ : Mem) (v1 : Int32) (H : Heap) (locs : List Loc) (ls : Array Slot), St D A ad S σ s.heap H locs → lv_has ls 3 [(0, .ref (ad 200)), (1, .int v1)] → f_X6_work_L2 k174 n σ v1 = some r → W p l e rm_X6_work s m args below meth c H locs 0 0 (MQ below (QG D A ad S (some (.int r.2)) r.1) args s 0 0 A) (F0 m 2 ls []) := by
  have hx := Z.1
  have hb := Z.2.1
  have hown := Z.2.2.2.2.2.1
  have hts := Z.2.2.2.2.2.2.1
  intro n
  induction n with
  | zero => intro σ v1 H locs ls hS hl h; cases h
  | succ n ih =>
    intro σ v1 H locs ls hS hl h
    unfold f_X6_work_L2 at h
    refine lv_aload_n hx hb dX6_work_2 rfl (lv_at hl 0 rfl) ?_
    refine h_getC (n := 28) (j := 228) (sh := (1, 5040)) Z hS cls_14 hu0 (by decide) rfl rfl rfl fl_X6_83_14 dX6_work_3 (fun hc1 => ?_)
    refine lv_aload_n hx hb dX6_work_6 rfl (lv_at hl 0 rfl) ?_
    refine h_getI Z hS cls_14 hu0 (by decide) rfl fl_X6_307_14 dX6_work_7 h (fun x2 h => ?_)
    refine h_iald Z hS hc1 dX6_work_10 h (fun x3 h => ?_)
    refine lv_iconst (v := (2 : Int32)) hx hb dX6_work_11 (by decide) ?_
    refine lv_icmp_eq (tgt := 174) hx hb dX6_work_12 (by decide) (fun c4 => ?_) (fun c4 => ?_)
    · have h := if_t h c4
      exact hk174 _ _ _ _ hS (lv_sub hl [0] rfl) h
    · have h := if_f h c4
      refine lv_aload_n hx hb dX6_work_15 rfl (lv_at hl 0 rfl) ?_
      refine h_getC (n := 28) (j := 228) (sh := (1, 5040)) Z hS cls_14 hu0 (by decide) rfl rfl rfl fl_X6_83_14 dX6_work_16 (fun hc5 => ?_)
      refine lv_aload_n hx hb dX6_work_19 rfl (lv_at hl 0 rfl) ?_
      refine h_getI Z hS cls_14 hu0 (by decide) rfl fl_X6_307_14 dX6_work_20 h (fun x6 h => ?_)
      refine h_iald Z hS hc5 dX6_work_23 h (fun x7 h => ?_)
      refine lv_iconst (v := (3 : Int32)) hx hb dX6_work_24 (by decide) ?_
      refine lv_icmp_eq (tgt := 174) hx hb dX6_work_25 (by decide) (fun c8 => ?_) (fun c8 => ?_)
      · have h := if_t h c8
        exact hk174 _ _ _ _ hS (lv_sub hl [0] rfl) h
      · have h := if_f h c8
        refine lv_aload_n hx hb dX6_work_28 rfl (lv_at hl 0 rfl) ?_
        refine h_getC (n := 28) (j := 228) (sh := (1, 5040)) Z hS cls_14 hu0 (by decide) rfl rfl rfl fl_X6_83_14 dX6_work_29 (fun hc9 => ?_)
        refine lv_aload_n hx hb dX6_work_32 rfl (lv_at hl 0 rfl) ?_
        refine h_getI Z hS cls_14 hu0 (by decide) rfl fl_X6_307_14 dX6_work_33 h (fun x10 h => ?_)
        refine h_iald Z hS hc9 dX6_work_36 h (fun x11 h => ?_)
        refine lv_istore_n (lv' := [(2, .int x11), (0, .ref (ad 200)), (1, .int v1)]) hx hb dX6_work_37 rfl hl (by decide) rfl (fun ls hl => ?_)
        refine lv_aload_n hx hb dX6_work_38 rfl (lv_at hl 1 rfl) ?_
        refine lv_dup hx hb dX6_work_39 rfl ?_
        refine h_getI Z hS cls_14 hu0 (by decide) rfl fl_X6_307_14 dX6_work_40 h (fun x12 h => ?_)
        refine lv_iconst (v := (1 : Int32)) hx hb dX6_work_43 (by decide) ?_
        refine lv_iadd hx hb dX6_work_44 ?_
        refine h_putI Z hS cls_14 hu0 (by decide) rfl rfl rfl fl_X6_307_14 dX6_work_45 h (fun σ13 H locs hS h => ?_)
        refine lv_iload_n hx hb dX6_work_48 rfl (lv_at hl 0 rfl) ?_
        refine lv_if_eq (tgt := 57) hx hb dX6_work_49 (by decide) (fun c14 => ?_) (fun c14 => ?_)
        · have h := if_t h c14
          refine lv_aload_n hx hb dX6_work_57 rfl (lv_at hl 1 rfl) ?_
          refine h_getC (n := 37) (j := 237) (sh := (1, 200)) Z hS cls_14 hu0 (by decide) rfl rfl rfl fl_X6_92_14 dX6_work_58 (fun hc15 => ?_)
          refine lv_iload_n hx hb dX6_work_61 rfl (lv_at hl 2 rfl) ?_
          refine lv_iload_n hx hb dX6_work_62 rfl (lv_at hl 0 rfl) ?_
          obtain ⟨x17, hp18, h⟩ := bnd_el h
          have K18 : ∀ (H : Heap) (locs : List Loc) (ls : Array Slot), St D A ad S σ13 s.heap H locs → lv_has ls 3 [(0, .ref (ad 200)), (1, .int v1)] → W p l e rm_X6_work s m args below meth c H locs 0 0 (MQ below (QG D A ad S (some (.int r.2)) r.1) args s 0 0 A) (F0 m 92 ls [.int x17, .int v1, .ref (ad 237)]) := by
            intro H locs ls hS hl
            refine h_iast Z hS hc15 dX6_work_92 h (fun σ19 H locs hS h => ?_)
            refine lv_aload_n hx hb dX6_work_93 rfl (lv_at hl 0 rfl) ?_
            refine lv_dup hx hb dX6_work_94 rfl ?_
            refine h_getI Z hS cls_14 hu0 (by decide) rfl fl_X6_307_14 dX6_work_95 h (fun x20 h => ?_)
            refine lv_iconst (v := (1 : Int32)) hx hb dX6_work_98 (by decide) ?_
            refine lv_iadd hx hb dX6_work_99 ?_
            refine h_putI Z hS cls_14 hu0 (by decide) rfl rfl rfl fl_X6_307_14 dX6_work_100 h (fun σ21 H locs hS h => ?_)
            refine lv_iinc (v := (v1 + (1 : Int32))) (lv' := [(1, .int (v1 + (1 : Int32))), (0, .ref (ad 200))]) hx hb dX6_work_103 hl (k := 1) rfl rfl (by decide) rfl (fun ls hl => ?_)
            refine lv_goto (tgt := 171) hx hb dX6_work_106 (by decide) ?_
            refine lv_goto (tgt := 2) hx hb dX6_work_171 (by decide) ?_
            exact ih _ _ _ _ _ hS (lv_sub hl [1, 0] rfl) h
          clear h
          have h := hp18
          clear hp18
          refine lv_if_ne (tgt := 78) hx hb dX6_work_63 (by decide) (fun c16 => ?_) (fun c16 => ?_)
          · have h := if_f h c16
            refine lv_aload_n hx hb dX6_work_78 rfl (lv_at hl 1 rfl) ?_
            refine h_getC (n := 36) (j := 236) (sh := (1, 128)) Z hS cls_14 hu0 (by decide) rfl rfl rfl fl_X6_89_14 dX6_work_79 (fun hc25 => ?_)
            refine lv_aload_n hx hb dX6_work_82 rfl (lv_at hl 1 rfl) ?_
            refine h_getC (n := 28) (j := 228) (sh := (1, 5040)) Z hS cls_14 hu0 (by decide) rfl rfl rfl fl_X6_83_14 dX6_work_83 (fun hc26 => ?_)
            refine lv_aload_n hx hb dX6_work_86 rfl (lv_at hl 1 rfl) ?_
            refine h_getI Z hS cls_14 hu0 (by decide) rfl fl_X6_307_14 dX6_work_87 h (fun x27 h => ?_)
            refine h_iald Z hS hc26 dX6_work_90 h (fun x28 h => ?_)
            refine h_iald Z hS hc25 dX6_work_91 h (fun x29 h => ?_)
            cases h
            exact K18 _ _ _ hS (lv_sub hl [1, 2] rfl)
          · have h := if_t h c16
            refine lv_aload_n hx hb dX6_work_66 rfl (lv_at hl 1 rfl) ?_
            refine h_getC (n := 28) (j := 228) (sh := (1, 5040)) Z hS cls_14 hu0 (by decide) rfl rfl rfl fl_X6_83_14 dX6_work_67 (fun hc22 => ?_)
            refine lv_aload_n hx hb dX6_work_70 rfl (lv_at hl 1 rfl) ?_
            refine h_getI Z hS cls_14 hu0 (by decide) rfl fl_X6_307_14 dX6_work_71 h (fun x23 h => ?_)
            refine h_iald Z hS hc22 dX6_work_74 h (fun x24 h => ?_)
            refine lv_goto (tgt := 92) hx hb dX6_work_75 (by decide) ?_
            cases h
            exact K18 _ _ _ hS (lv_sub hl [1, 2] rfl)
        · have h := if_f h c14
          refine lv_iload_n hx hb dX6_work_52 rfl (lv_at hl 0 rfl) ?_
          refine lv_iconst (v := (1 : Int32)) hx hb dX6_work_53 (by decide) ?_
          refine lv_icmp_ne (tgt := 109) hx hb dX6_work_54 (by decide) (fun c30 => ?_) (fun c30 => ?_)
          · have h := if_f h c30
            refine lv_iload_n hx hb dX6_work_109 rfl (lv_at hl 0 rfl) ?_
            refine lv_bipush (v := (33 : Int32)) hx hb dX6_work_110 (by decide) ?_
            refine lv_icmp_ne (tgt := 142) hx hb dX6_work_112 (by decide) (fun c46 => ?_) (fun c46 => ?_)
            · have h := if_f h c46
              refine lv_iinc (v := (v1 + (-1 : Int32))) (lv' := [(1, .int (v1 + (-1 : Int32))), (2, .int x11), (0, .ref (ad 200))]) hx hb dX6_work_142 hl (k := 2) rfl rfl (by decide) rfl (fun ls hl => ?_)
              refine lv_aload_n hx hb dX6_work_145 rfl (lv_at hl 2 rfl) ?_
              refine h_getC (n := 37) (j := 237) (sh := (1, 200)) Z hS cls_14 hu0 (by decide) rfl rfl rfl fl_X6_92_14 dX6_work_146 (fun hc53 => ?_)
              refine lv_iload_n hx hb dX6_work_149 rfl (lv_at hl 0 rfl) ?_
              refine lv_iconst (v := (1 : Int32)) hx hb dX6_work_150 (by decide) ?_
              refine lv_isub hx hb dX6_work_151 ?_
              refine lv_iload_n hx hb dX6_work_152 rfl (lv_at hl 1 rfl) ?_
              refine lv_aload_n hx hb dX6_work_153 rfl (lv_at hl 2 rfl) ?_
              refine h_getC (n := 37) (j := 237) (sh := (1, 200)) Z hS cls_14 hu0 (by decide) rfl rfl rfl fl_X6_92_14 dX6_work_154 (fun hc54 => ?_)
              refine lv_iload_n hx hb dX6_work_157 rfl (lv_at hl 0 rfl) ?_
              refine lv_iconst (v := (1 : Int32)) hx hb dX6_work_158 (by decide) ?_
              refine lv_isub hx hb dX6_work_159 ?_
              refine h_iald Z hS hc54 dX6_work_160 h (fun x55 h => ?_)
              refine lv_aload_n hx hb dX6_work_161 rfl (lv_at hl 2 rfl) ?_
              refine h_getC (n := 37) (j := 237) (sh := (1, 200)) Z hS cls_14 hu0 (by decide) rfl rfl rfl fl_X6_92_14 dX6_work_162 (fun hc56 => ?_)
              refine lv_iload_n hx hb dX6_work_165 rfl (lv_at hl 0 rfl) ?_
              refine h_iald Z hS hc56 dX6_work_166 h (fun x57 h => ?_)
              refine h_ci hS h (fun z hz => h_rS (rest := [.int ((v1 + (-1 : Int32)) - (1 : Int32)), .ref (ad 237)]) Z hS v_X6_310 (w_X6_both hz) rfl rfl ⟨by decide, by decide⟩ rfl hl.1 rfl (Nat.le_of_ble_eq_true rfl) (Nat.zero_le _) (Nat.zero_le _) dX6_work_167) (fun x58 H locs hS h => ?_)
              refine h_iast Z hS hc53 dX6_work_170 h (fun σ59 H locs hS h => ?_)
              refine lv_goto (tgt := 2) hx hb dX6_work_171 (by decide) ?_
              exact ih _ _ _ _ _ hS (lv_sub hl [2, 0] rfl) h
            · have h := if_t h c46
              refine lv_aload_n hx hb dX6_work_115 rfl (lv_at hl 1 rfl) ?_
              refine h_getC (n := 37) (j := 237) (sh := (1, 200)) Z hS cls_14 hu0 (by decide) rfl rfl rfl fl_X6_92_14 dX6_work_116 (fun hc47 => ?_)
              refine lv_iload_n hx hb dX6_work_119 rfl (lv_at hl 2 rfl) ?_
              refine lv_iconst (v := (1 : Int32)) hx hb dX6_work_120 (by decide) ?_
              refine lv_isub hx hb dX6_work_121 ?_
              refine lv_aload_n hx hb dX6_work_122 rfl (lv_at hl 1 rfl) ?_
              refine h_getC (n := 37) (j := 237) (sh := (1, 200)) Z hS cls_14 hu0 (by decide) rfl rfl rfl fl_X6_92_14 dX6_work_123 (fun hc48 => ?_)
              refine lv_iload_n hx hb dX6_work_126 rfl (lv_at hl 2 rfl) ?_
              refine lv_iconst (v := (1 : Int32)) hx hb dX6_work_127 (by decide) ?_
              refine lv_isub hx hb dX6_work_128 ?_
              refine h_iald Z hS hc48 dX6_work_129 h (fun x49 h => ?_)
              refine lv_if_ne (tgt := 137) hx hb dX6_work_130 (by decide) (fun c50 => ?_) (fun c50 => ?_)
              · have h := if_f h c50
                refine lv_iconst (v := (0 : Int32)) hx hb dX6_work_137 (by decide) ?_
                refine h_iast Z hS hc47 dX6_work_138 h (fun σ52 H locs hS h => ?_)
                refine lv_goto (tgt := 171) hx hb dX6_work_139 (by decide) ?_
                refine lv_goto (tgt := 2) hx hb dX6_work_171 (by decide) ?_
                exact ih _ _ _ _ _ hS (lv_sub hl [1, 2] rfl) h
              · have h := if_t h c50
                refine lv_iconst (v := (1 : Int32)) hx hb dX6_work_133 (by decide) ?_
                refine lv_goto (tgt := 138) hx hb dX6_work_134 (by decide) ?_
                refine h_iast Z hS hc47 dX6_work_138 h (fun σ51 H locs hS h => ?_)
                refine lv_goto (tgt := 171) hx hb dX6_work_139 (by decide) ?_
                refine lv_goto (tgt := 2) hx hb dX6_work_171 (by decide) ?_
                exact ih _ _ _ _ _ hS (lv_sub hl [1, 2] rfl) h
          · have h := if_t h c30
            refine lv_aload_n hx hb dX6_work_57 rfl (lv_at hl 1 rfl) ?_
            refine h_getC (n := 37) (j := 237) (sh := (1, 200)) Z hS cls_14 hu0 (by decide) rfl rfl rfl fl_X6_92_14 dX6_work_58 (fun hc31 => ?_)
            refine lv_iload_n hx hb dX6_work_61 rfl (lv_at hl 2 rfl) ?_
            refine lv_iload_n hx hb dX6_work_62 rfl (lv_at hl 0 rfl) ?_
            obtain ⟨x33, hp34, h⟩ := bnd_el h
            have K34 : ∀ (H : Heap) (locs : List Loc) (ls : Array Slot), St D A ad S σ13 s.heap H locs → lv_has ls 3 [(0, .ref (ad 200)), (1, .int v1)] → W p l e rm_X6_work s m args below meth c H locs 0 0 (MQ below (QG D A ad S (some (.int r.2)) r.1) args s 0 0 A) (F0 m 92 ls [.int x33, .int v1, .ref (ad 237)]) := by
              intro H locs ls hS hl
              refine h_iast Z hS hc31 dX6_work_92 h (fun σ35 H locs hS h => ?_)
              refine lv_aload_n hx hb dX6_work_93 rfl (lv_at hl 0 rfl) ?_
              refine lv_dup hx hb dX6_work_94 rfl ?_
              refine h_getI Z hS cls_14 hu0 (by decide) rfl fl_X6_307_14 dX6_work_95 h (fun x36 h => ?_)
              refine lv_iconst (v := (1 : Int32)) hx hb dX6_work_98 (by decide) ?_
              refine lv_iadd hx hb dX6_work_99 ?_
              refine h_putI Z hS cls_14 hu0 (by decide) rfl rfl rfl fl_X6_307_14 dX6_work_100 h (fun σ37 H locs hS h => ?_)
              refine lv_iinc (v := (v1 + (1 : Int32))) (lv' := [(1, .int (v1 + (1 : Int32))), (0, .ref (ad 200))]) hx hb dX6_work_103 hl (k := 1) rfl rfl (by decide) rfl (fun ls hl => ?_)
              refine lv_goto (tgt := 171) hx hb dX6_work_106 (by decide) ?_
              refine lv_goto (tgt := 2) hx hb dX6_work_171 (by decide) ?_
              exact ih _ _ _ _ _ hS (lv_sub hl [1, 0] rfl) h
            clear h
            have h := hp34
            clear hp34
            refine lv_if_ne (tgt := 78) hx hb dX6_work_63 (by decide) (fun c32 => ?_) (fun c32 => ?_)
            · have h := if_f h c32
              refine lv_aload_n hx hb dX6_work_78 rfl (lv_at hl 1 rfl) ?_
              refine h_getC (n := 36) (j := 236) (sh := (1, 128)) Z hS cls_14 hu0 (by decide) rfl rfl rfl fl_X6_89_14 dX6_work_79 (fun hc41 => ?_)
              refine lv_aload_n hx hb dX6_work_82 rfl (lv_at hl 1 rfl) ?_
              refine h_getC (n := 28) (j := 228) (sh := (1, 5040)) Z hS cls_14 hu0 (by decide) rfl rfl rfl fl_X6_83_14 dX6_work_83 (fun hc42 => ?_)
              refine lv_aload_n hx hb dX6_work_86 rfl (lv_at hl 1 rfl) ?_
              refine h_getI Z hS cls_14 hu0 (by decide) rfl fl_X6_307_14 dX6_work_87 h (fun x43 h => ?_)
              refine h_iald Z hS hc42 dX6_work_90 h (fun x44 h => ?_)
              refine h_iald Z hS hc41 dX6_work_91 h (fun x45 h => ?_)
              cases h
              exact K34 _ _ _ hS (lv_sub hl [1, 2] rfl)
            · have h := if_t h c32
              refine lv_aload_n hx hb dX6_work_66 rfl (lv_at hl 1 rfl) ?_
              refine h_getC (n := 28) (j := 228) (sh := (1, 5040)) Z hS cls_14 hu0 (by decide) rfl rfl rfl fl_X6_83_14 dX6_work_67 (fun hc38 => ?_)
              refine lv_aload_n hx hb dX6_work_70 rfl (lv_at hl 1 rfl) ?_
              refine h_getI Z hS cls_14 hu0 (by decide) rfl fl_X6_307_14 dX6_work_71 h (fun x39 h => ?_)
              refine h_iald Z hS hc38 dX6_work_74 h (fun x40 h => ?_)
              refine lv_goto (tgt := 92) hx hb dX6_work_75 (by decide) ?_
              cases h
              exact K34 _ _ _ hS (lv_sub hl [1, 2] rfl)
set_option maxRecDepth 100000 in
set_option maxHeartbeats 4000000 in
theorem w_X6_work (hi0 : S 200 = (24, 0)) {r : (Mem × Int32)} (h : f_X6_work σ = some r) : Met l yX6_work (ws_ yX6_work cX6_work 3 (some .int)) rm_X6_work (va_Pc [.ref (ad 200)] (PreG D (Ew D A) A ad S σ)) (QG D A ad S (some (.int r.2)) r.1) 0 0 A := by
  refine y_met (by decide) (Nat.le_of_ble_eq_true rfl) (fun p e s m below meth c ls Z hS hl => ?_)
  have hx := Z.1
  have hb := Z.2.1
  have hown := Z.2.2.2.2.2.1
  have hts := Z.2.2.2.2.2.2.1
  unfold f_X6_work at h
  refine lv_iconst (v := (0 : Int32)) hx hb dX6_work_0 (by decide) ?_
  refine lv_istore_n (lv' := [(1, .int (0 : Int32)), (0, .ref (ad 200))]) hx hb dX6_work_1 rfl hl (by decide) rfl (fun ls hl => ?_)
  refine w_X6_work_L2 Z hi0 (fun σ60 H locs ls hS hl h => ?_) FU _ _ _ _ _ hS (lv_sub hl [1, 0] rfl) h
  refine lv_aload_n hx hb dX6_work_174 rfl (lv_at hl 0 rfl) ?_
  refine lv_dup hx hb dX6_work_175 rfl ?_
  refine h_getI Z hS cls_14 hi0 (by decide) rfl fl_X6_307_14 dX6_work_176 h (fun x61 h => ?_)
  refine lv_iconst (v := (1 : Int32)) hx hb dX6_work_179 (by decide) ?_
  refine lv_iadd hx hb dX6_work_180 ?_
  refine h_putI Z hS cls_14 hi0 (by decide) rfl rfl rfl fl_X6_307_14 dX6_work_181 h (fun σ62 H locs hS h => ?_)
  refine lv_aload_n hx hb dX6_work_184 rfl (lv_at hl 0 rfl) ?_
  refine h_getC (n := 37) (j := 237) (sh := (1, 200)) Z hS cls_14 hi0 (by decide) rfl rfl rfl fl_X6_92_14 dX6_work_185 (fun hc63 => ?_)
  refine lv_iconst (v := (0 : Int32)) hx hb dX6_work_188 (by decide) ?_
  refine h_iald Z hS hc63 dX6_work_189 h (fun x64 h => ?_)
  exact h_iretm Z hS dX6_work_190 h
end
theorem dX6_worthBy_0 : decode cX6_worthBy 0 = .ok (.aload_n 0, 1) := by decide +kernel
theorem dX6_worthBy_1 : decode cX6_worthBy 1 = .ok (.sipush 420, 3) := by decide +kernel
theorem dX6_worthBy_4 : decode cX6_worthBy 4 = .ok (.iload_n 1, 1) := by decide +kernel
theorem dX6_worthBy_5 : decode cX6_worthBy 5 = .ok (.imul, 1) := by decide +kernel
theorem dX6_worthBy_6 : decode cX6_worthBy 6 = .ok (.putfield 307, 3) := by decide +kernel
theorem dX6_worthBy_9 : decode cX6_worthBy 9 = .ok (.aload_n 0, 1) := by decide +kernel
theorem dX6_worthBy_10 : decode cX6_worthBy 10 = .ok (.getfield 307, 3) := by decide +kernel
theorem dX6_worthBy_13 : decode cX6_worthBy 13 = .ok (.sipush 420, 3) := by decide +kernel
theorem dX6_worthBy_16 : decode cX6_worthBy 16 = .ok (.iload_n 1, 1) := by decide +kernel
theorem dX6_worthBy_17 : decode cX6_worthBy 17 = .ok (.imul, 1) := by decide +kernel
theorem dX6_worthBy_18 : decode cX6_worthBy 18 = .ok (.aload_n 0, 1) := by decide +kernel
theorem dX6_worthBy_19 : decode cX6_worthBy 19 = .ok (.getfield 86, 3) := by decide +kernel
theorem dX6_worthBy_22 : decode cX6_worthBy 22 = .ok (.iload_n 1, 1) := by decide +kernel
theorem dX6_worthBy_23 : decode cX6_worthBy 23 = .ok (.iaload, 1) := by decide +kernel
theorem dX6_worthBy_24 : decode cX6_worthBy 24 = .ok (.iadd, 1) := by decide +kernel
theorem dX6_worthBy_25 : decode cX6_worthBy 25 = .ok (.if_icmp .ge 67, 3) := by decide +kernel
theorem dX6_worthBy_28 : decode cX6_worthBy 28 = .ok (.aload_n 0, 1) := by decide +kernel
theorem dX6_worthBy_29 : decode cX6_worthBy 29 = .ok (.getfield 83, 3) := by decide +kernel
theorem dX6_worthBy_32 : decode cX6_worthBy 32 = .ok (.aload_n 0, 1) := by decide +kernel
theorem dX6_worthBy_33 : decode cX6_worthBy 33 = .ok (.getfield 307, 3) := by decide +kernel
theorem dX6_worthBy_36 : decode cX6_worthBy 36 = .ok (.iaload, 1) := by decide +kernel
theorem dX6_worthBy_37 : decode cX6_worthBy 37 = .ok (.iload_n 2, 1) := by decide +kernel
theorem dX6_worthBy_38 : decode cX6_worthBy 38 = .ok (.if_icmp .ne 7, 3) := by decide +kernel
theorem dX6_worthBy_41 : decode cX6_worthBy 41 = .ok (.iconst 1, 1) := by decide +kernel
theorem dX6_worthBy_42 : decode cX6_worthBy 42 = .ok (.goto 4, 3) := by decide +kernel
theorem dX6_worthBy_45 : decode cX6_worthBy 45 = .ok (.iconst 0, 1) := by decide +kernel
theorem dX6_worthBy_46 : decode cX6_worthBy 46 = .ok (.istore_n 3, 1) := by decide +kernel
theorem dX6_worthBy_47 : decode cX6_worthBy 47 = .ok (.aload_n 0, 1) := by decide +kernel
theorem dX6_worthBy_48 : decode cX6_worthBy 48 = .ok (.dup, 1) := by decide +kernel
theorem dX6_worthBy_49 : decode cX6_worthBy 49 = .ok (.getfield 307, 3) := by decide +kernel
theorem dX6_worthBy_52 : decode cX6_worthBy 52 = .ok (.iconst 1, 1) := by decide +kernel
theorem dX6_worthBy_53 : decode cX6_worthBy 53 = .ok (.iadd, 1) := by decide +kernel
theorem dX6_worthBy_54 : decode cX6_worthBy 54 = .ok (.putfield 307, 3) := by decide +kernel
theorem dX6_worthBy_57 : decode cX6_worthBy 57 = .ok (.aload_n 0, 1) := by decide +kernel
theorem dX6_worthBy_58 : decode cX6_worthBy 58 = .ok (.invokevirtual 313, 3) := by decide +kernel
theorem dX6_worthBy_61 : decode cX6_worthBy 61 = .ok (.ifCond .eq 7, 3) := by decide +kernel
theorem dX6_worthBy_64 : decode cX6_worthBy 64 = .ok (.iconst 1, 1) := by decide +kernel
theorem dX6_worthBy_65 : decode cX6_worthBy 65 = .ok (.goto 4, 3) := by decide +kernel
theorem dX6_worthBy_68 : decode cX6_worthBy 68 = .ok (.iconst 0, 1) := by decide +kernel
theorem dX6_worthBy_69 : decode cX6_worthBy 69 = .ok (.istore 4, 2) := by decide +kernel
theorem dX6_worthBy_71 : decode cX6_worthBy 71 = .ok (.aload_n 0, 1) := by decide +kernel
theorem dX6_worthBy_72 : decode cX6_worthBy 72 = .ok (.invokevirtual 313, 3) := by decide +kernel
theorem dX6_worthBy_75 : decode cX6_worthBy 75 = .ok (.istore 5, 2) := by decide +kernel
theorem dX6_worthBy_77 : decode cX6_worthBy 77 = .ok (.iload_n 3, 1) := by decide +kernel
theorem dX6_worthBy_78 : decode cX6_worthBy 78 = .ok (.ifCond .eq 11, 3) := by decide +kernel
theorem dX6_worthBy_81 : decode cX6_worthBy 81 = .ok (.iload 4, 2) := by decide +kernel
theorem dX6_worthBy_83 : decode cX6_worthBy 83 = .ok (.ifCond .eq 6, 3) := by decide +kernel
theorem dX6_worthBy_86 : decode cX6_worthBy 86 = .ok (.iload 5, 2) := by decide +kernel
theorem dX6_worthBy_88 : decode cX6_worthBy 88 = .ok (.ireturn, 1) := by decide +kernel
theorem dX6_worthBy_89 : decode cX6_worthBy 89 = .ok (.goto (-80), 3) := by decide +kernel
theorem dX6_worthBy_92 : decode cX6_worthBy 92 = .ok (.iconst 0, 1) := by decide +kernel
theorem dX6_worthBy_93 : decode cX6_worthBy 93 = .ok (.ireturn, 1) := by decide +kernel
abbrev rm_X6_worthBy : Room := k2_rm 4 82
section
variable {p : Program} {l : Launch} {e : Env} {s : State} {m : MethodId} {args : Array Value} {below : List Frame} {meth : Method} {c : Code} {D : gD} {A : Nat → Prop} {ad : Nat → Nat} {S : Nat → Nat × Nat} {σ : Mem}
set_option maxRecDepth 100000 in
set_option maxHeartbeats 4000000 in
theorem w_X6_worthBy_L9 (Z : Cz D (Ew D A) A cX6_worthBy 6 (some .int) RX6 p s m args meth c) {u1 : Int32} {u2 : Int32} (hu0 : S 200 = (24, 0)) {r : (Mem × Int32)} {k86 : Mem → Int32 → Option (Mem × Int32)} {k92 : Mem → Option (Mem × Int32)}
    (hk86 : ∀ (σ : Mem) (w5 : Int32) (H : Heap) (locs : List Loc) (ls : Array Slot), St D A ad S σ s.heap H locs → lv_has ls 6 [(5, .int w5)] → k86 σ w5 = some r → W p l e rm_X6_worthBy s m args below meth c H locs 0 0 (MQ below (QG D A ad S (some (.int r.2)) r.1) args s 0 0 A) (F0 m 86 ls []))
    (hk92 : ∀ (σ : Mem)  (H : Heap) (locs : List Loc) (ls : Array Slot), St D A ad S σ s.heap H locs → lv_has ls 6 [] → k92 σ = some r → W p l e rm_X6_worthBy s m args below meth c H locs 0 0 (MQ below (QG D A ad S (some (.int r.2)) r.1) args s 0 0 A) (F0 m 92 ls [])) :
    ∀ (n : Nat) (σ : Mem)  (H : Heap) (locs : List Loc) (ls : Array Slot), St D A ad S σ s.heap H locs → lv_has ls 6 [(0, .ref (ad 200)), (1, .int u1), (2, .int u2)] → f_X6_worthBy_L9 k86 k92 u1 u2 n σ = some r → W p l e rm_X6_worthBy s m args below meth c H locs 0 0 (MQ below (QG D A ad S (some (.int r.2)) r.1) args s 0 0 A) (F0 m 9 ls []) := by
  have hx := Z.1
  have hb := Z.2.1
  have hown := Z.2.2.2.2.2.1
  have hts := Z.2.2.2.2.2.2.1
  intro n
  induction n with
  | zero => intro σ H locs ls hS hl h; cases h
  | succ n ih =>
    intro σ H locs ls hS hl h
    unfold f_X6_worthBy_L9 at h
    refine lv_aload_n hx hb dX6_worthBy_9 rfl (lv_at hl 0 rfl) ?_
    refine h_getI Z hS cls_14 hu0 (by decide) rfl fl_X6_307_14 dX6_worthBy_10 h (fun x2 h => ?_)
    refine lv_sipush (v := (420 : Int32)) hx hb dX6_worthBy_13 (by decide) ?_
    refine lv_iload_n hx hb dX6_worthBy_16 rfl (lv_at hl 1 rfl) ?_
    refine lv_imul hx hb dX6_worthBy_17 ?_
    refine lv_aload_n hx hb dX6_worthBy_18 rfl (lv_at hl 0 rfl) ?_
    refine h_getC (n := 29) (j := 229) (sh := (1, 12)) Z hS cls_14 hu0 (by decide) rfl rfl rfl fl_X6_86_14 dX6_worthBy_19 (fun hc3 => ?_)
    refine lv_iload_n hx hb dX6_worthBy_22 rfl (lv_at hl 1 rfl) ?_
    refine h_iald Z hS hc3 dX6_worthBy_23 h (fun x4 h => ?_)
    refine lv_iadd hx hb dX6_worthBy_24 ?_
    refine lv_icmp_ge (tgt := 92) hx hb dX6_worthBy_25 (by decide) (fun c5 => ?_) (fun c5 => ?_)
    · have h := if_t h c5
      exact hk92 _ _ _ _ hS (lv_sub hl [] rfl) h
    · have h := if_f h c5
      refine lv_aload_n hx hb dX6_worthBy_28 rfl (lv_at hl 0 rfl) ?_
      refine h_getC (n := 28) (j := 228) (sh := (1, 5040)) Z hS cls_14 hu0 (by decide) rfl rfl rfl fl_X6_83_14 dX6_worthBy_29 (fun hc6 => ?_)
      refine lv_aload_n hx hb dX6_worthBy_32 rfl (lv_at hl 0 rfl) ?_
      refine h_getI Z hS cls_14 hu0 (by decide) rfl fl_X6_307_14 dX6_worthBy_33 h (fun x7 h => ?_)
      refine h_iald Z hS hc6 dX6_worthBy_36 h (fun x8 h => ?_)
      refine lv_iload_n hx hb dX6_worthBy_37 rfl (lv_at hl 2 rfl) ?_
      obtain ⟨x10, hp11, h⟩ := bnd_el h
      have K11 : ∀ (H : Heap) (locs : List Loc) (ls : Array Slot), St D A ad S σ s.heap H locs → lv_has ls 6 [(0, .ref (ad 200)), (1, .int u1), (2, .int u2)] → W p l e rm_X6_worthBy s m args below meth c H locs 0 0 (MQ below (QG D A ad S (some (.int r.2)) r.1) args s 0 0 A) (F0 m 46 ls [.int x10]) := by
        intro H locs ls hS hl
        refine lv_istore_n (lv' := [(3, .int x10), (0, .ref (ad 200)), (1, .int u1), (2, .int u2)]) hx hb dX6_worthBy_46 rfl hl (by decide) rfl (fun ls hl => ?_)
        refine lv_aload_n hx hb dX6_worthBy_47 rfl (lv_at hl 1 rfl) ?_
        refine lv_dup hx hb dX6_worthBy_48 rfl ?_
        refine h_getI Z hS cls_14 hu0 (by decide) rfl fl_X6_307_14 dX6_worthBy_49 h (fun x12 h => ?_)
        refine lv_iconst (v := (1 : Int32)) hx hb dX6_worthBy_52 (by decide) ?_
        refine lv_iadd hx hb dX6_worthBy_53 ?_
        refine h_putI Z hS cls_14 hu0 (by decide) rfl rfl rfl fl_X6_307_14 dX6_worthBy_54 h (fun σ13 H locs hS h => ?_)
        refine lv_aload_n hx hb dX6_worthBy_57 rfl (lv_at hl 1 rfl) ?_
        refine h_cim hS h (fun z hz => h_rV (rest := []) Z hS hu0 rfl v_X6_313 (w_X6_work hu0 hz) rfl rfl ⟨by decide, by decide⟩ rfl hl.1 rfl (Nat.le_of_ble_eq_true rfl) (Nat.zero_le _) (Nat.zero_le _) dX6_worthBy_58) (fun σ14 x15 H locs hS h => ?_)
        obtain ⟨x17, hp18, h⟩ := bnd_el h
        have K18 : ∀ (H : Heap) (locs : List Loc) (ls : Array Slot), St D A ad S σ14 s.heap H locs → lv_has ls 6 [(0, .ref (ad 200)), (1, .int u1), (2, .int u2), (3, .int x10)] → W p l e rm_X6_worthBy s m args below meth c H locs 0 0 (MQ below (QG D A ad S (some (.int r.2)) r.1) args s 0 0 A) (F0 m 69 ls [.int x17]) := by
          intro H locs ls hS hl
          refine lv_istore (lv' := [(4, .int x17), (0, .ref (ad 200)), (1, .int u1), (2, .int u2), (3, .int x10)]) hx hb dX6_worthBy_69 hl (by decide) rfl (fun ls hl => ?_)
          refine lv_aload_n hx hb dX6_worthBy_71 rfl (lv_at hl 1 rfl) ?_
          refine h_cim hS h (fun z hz => h_rV (rest := []) Z hS hu0 rfl v_X6_313 (w_X6_work hu0 hz) rfl rfl ⟨by decide, by decide⟩ rfl hl.1 rfl (Nat.le_of_ble_eq_true rfl) (Nat.zero_le _) (Nat.zero_le _) dX6_worthBy_72) (fun σ19 x20 H locs hS h => ?_)
          refine lv_istore (lv' := [(5, .int x20), (4, .int x17), (0, .ref (ad 200)), (1, .int u1), (2, .int u2), (3, .int x10)]) hx hb dX6_worthBy_75 hl (by decide) rfl (fun ls hl => ?_)
          refine lv_iload_n hx hb dX6_worthBy_77 rfl (lv_at hl 5 rfl) ?_
          refine lv_if_eq (tgt := 89) hx hb dX6_worthBy_78 (by decide) (fun c21 => ?_) (fun c21 => ?_)
          · have h := if_t h c21
            refine lv_goto (tgt := 9) hx hb dX6_worthBy_89 (by decide) ?_
            exact ih _ _ _ _ hS (lv_sub hl [2, 3, 4] rfl) h
          · have h := if_f h c21
            refine lv_iload hx hb dX6_worthBy_81 (lv_at hl 1 rfl) ?_
            refine lv_if_eq (tgt := 89) hx hb dX6_worthBy_83 (by decide) (fun c22 => ?_) (fun c22 => ?_)
            · have h := if_t h c22
              refine lv_goto (tgt := 9) hx hb dX6_worthBy_89 (by decide) ?_
              exact ih _ _ _ _ hS (lv_sub hl [2, 3, 4] rfl) h
            · have h := if_f h c22
              exact hk86 _ _ _ _ _ hS (lv_sub hl [0] rfl) h
        clear h
        have h := hp18
        clear hp18
        refine lv_if_eq (tgt := 68) hx hb dX6_worthBy_61 (by decide) (fun c16 => ?_) (fun c16 => ?_)
        · have h := if_t h c16
          refine lv_iconst (v := (0 : Int32)) hx hb dX6_worthBy_68 (by decide) ?_
          cases h
          exact K18 _ _ _ hS (lv_sub hl [1, 2, 3, 0] rfl)
        · have h := if_f h c16
          refine lv_iconst (v := (1 : Int32)) hx hb dX6_worthBy_64 (by decide) ?_
          refine lv_goto (tgt := 69) hx hb dX6_worthBy_65 (by decide) ?_
          cases h
          exact K18 _ _ _ hS (lv_sub hl [1, 2, 3, 0] rfl)
      clear h
      have h := hp11
      clear hp11
      refine lv_icmp_ne (tgt := 45) hx hb dX6_worthBy_38 (by decide) (fun c9 => ?_) (fun c9 => ?_)
      · have h := if_f h c9
        refine lv_iconst (v := (0 : Int32)) hx hb dX6_worthBy_45 (by decide) ?_
        cases h
        exact K11 _ _ _ hS (lv_sub hl [0, 1, 2] rfl)
      · have h := if_t h c9
        refine lv_iconst (v := (1 : Int32)) hx hb dX6_worthBy_41 (by decide) ?_
        refine lv_goto (tgt := 46) hx hb dX6_worthBy_42 (by decide) ?_
        cases h
        exact K11 _ _ _ hS (lv_sub hl [0, 1, 2] rfl)
set_option maxRecDepth 100000 in
set_option maxHeartbeats 4000000 in
theorem w_X6_worthBy {a1 : Int32} {a2 : Int32} (hi0 : S 200 = (24, 0)) {r : (Mem × Int32)} (h : f_X6_worthBy σ a1 a2 = some r) : Met l yX6_worthBy (ws_ yX6_worthBy cX6_worthBy 6 (some .int)) rm_X6_worthBy (va_Pc [.ref (ad 200), .int a1, .int a2] (PreG D (Ew D A) A ad S σ)) (QG D A ad S (some (.int r.2)) r.1) 0 0 A := by
  refine y_met (by decide) (Nat.le_of_ble_eq_true rfl) (fun p e s m below meth c ls Z hS hl => ?_)
  have hx := Z.1
  have hb := Z.2.1
  have hown := Z.2.2.2.2.2.1
  have hts := Z.2.2.2.2.2.2.1
  unfold f_X6_worthBy at h
  refine lv_aload_n hx hb dX6_worthBy_0 rfl (lv_at hl 0 rfl) ?_
  refine lv_sipush (v := (420 : Int32)) hx hb dX6_worthBy_1 (by decide) ?_
  refine lv_iload_n hx hb dX6_worthBy_4 rfl (lv_at hl 1 rfl) ?_
  refine lv_imul hx hb dX6_worthBy_5 ?_
  refine h_putI Z hS cls_14 hi0 (by decide) rfl rfl rfl fl_X6_307_14 dX6_worthBy_6 h (fun σ1 H locs hS h => ?_)
  refine w_X6_worthBy_L9 Z hi0 (fun σ23 x24 H locs ls hS hl h => ?_) (fun σ25 H locs ls hS hl h => ?_) FU _ _ _ _ hS (lv_sub hl [0, 1, 2] rfl) h
  · refine lv_iload hx hb dX6_worthBy_86 (lv_at hl 0 rfl) ?_
    exact h_iretm Z hS dX6_worthBy_88 h
  · refine lv_iconst (v := (0 : Int32)) hx hb dX6_worthBy_92 (by decide) ?_
    exact h_iretm Z hS dX6_worthBy_93 h
end
theorem dX6_worth_0 : decode cX6_worth 0 = .ok (.aload_n 0, 1) := by decide +kernel
theorem dX6_worth_1 : decode cX6_worth 1 = .ok (.iload_n 1, 1) := by decide +kernel
theorem dX6_worth_2 : decode cX6_worth 2 = .ok (.iconst 0, 1) := by decide +kernel
theorem dX6_worth_3 : decode cX6_worth 3 = .ok (.aload_n 0, 1) := by decide +kernel
theorem dX6_worth_4 : decode cX6_worth 4 = .ok (.getfield 290, 3) := by decide +kernel
theorem dX6_worth_7 : decode cX6_worth 7 = .ok (.iconst 1, 1) := by decide +kernel
theorem dX6_worth_8 : decode cX6_worth 8 = .ok (.isub, 1) := by decide +kernel
theorem dX6_worth_9 : decode cX6_worth 9 = .ok (.invokestatic 161, 3) := by decide +kernel
theorem dX6_worth_12 : decode cX6_worth 12 = .ok (.ifCond .eq 14, 3) := by decide +kernel
theorem dX6_worth_15 : decode cX6_worth 15 = .ok (.iload_n 2, 1) := by decide +kernel
theorem dX6_worth_16 : decode cX6_worth 16 = .ok (.invokestatic 284, 3) := by decide +kernel
theorem dX6_worth_19 : decode cX6_worth 19 = .ok (.ifCond .eq 7, 3) := by decide +kernel
theorem dX6_worth_22 : decode cX6_worth 22 = .ok (.iconst 0, 1) := by decide +kernel
theorem dX6_worth_23 : decode cX6_worth 23 = .ok (.goto 4, 3) := by decide +kernel
theorem dX6_worth_26 : decode cX6_worth 26 = .ok (.iconst 1, 1) := by decide +kernel
theorem dX6_worth_27 : decode cX6_worth 27 = .ok (.putfield 157, 3) := by decide +kernel
theorem dX6_worth_30 : decode cX6_worth 30 = .ok (.aload_n 0, 1) := by decide +kernel
theorem dX6_worth_31 : decode cX6_worth 31 = .ok (.getfield 157, 3) := by decide +kernel
theorem dX6_worth_34 : decode cX6_worth 34 = .ok (.iconst 1, 1) := by decide +kernel
theorem dX6_worth_35 : decode cX6_worth 35 = .ok (.if_icmp .ne 5, 3) := by decide +kernel
theorem dX6_worth_38 : decode cX6_worth 38 = .ok (.iconst 0, 1) := by decide +kernel
theorem dX6_worth_39 : decode cX6_worth 39 = .ok (.ireturn, 1) := by decide +kernel
theorem dX6_worth_40 : decode cX6_worth 40 = .ok (.aload_n 0, 1) := by decide +kernel
theorem dX6_worth_41 : decode cX6_worth 41 = .ok (.getfield 89, 3) := by decide +kernel
theorem dX6_worth_44 : decode cX6_worth 44 = .ok (.bipush 112, 2) := by decide +kernel
theorem dX6_worth_46 : decode cX6_worth 46 = .ok (.iload_n 3, 1) := by decide +kernel
theorem dX6_worth_47 : decode cX6_worth 47 = .ok (.iastore, 1) := by decide +kernel
theorem dX6_worth_48 : decode cX6_worth 48 = .ok (.aload_n 0, 1) := by decide +kernel
theorem dX6_worth_49 : decode cX6_worth 49 = .ok (.getfield 89, 3) := by decide +kernel
theorem dX6_worth_52 : decode cX6_worth 52 = .ok (.bipush 104, 2) := by decide +kernel
theorem dX6_worth_54 : decode cX6_worth 54 = .ok (.iload 4, 2) := by decide +kernel
theorem dX6_worth_56 : decode cX6_worth 56 = .ok (.iastore, 1) := by decide +kernel
theorem dX6_worth_57 : decode cX6_worth 57 = .ok (.aload_n 0, 1) := by decide +kernel
theorem dX6_worth_58 : decode cX6_worth 58 = .ok (.getfield 89, 3) := by decide +kernel
theorem dX6_worth_61 : decode cX6_worth 61 = .ok (.bipush 111, 2) := by decide +kernel
theorem dX6_worth_63 : decode cX6_worth 63 = .ok (.iload 5, 2) := by decide +kernel
theorem dX6_worth_65 : decode cX6_worth 65 = .ok (.iastore, 1) := by decide +kernel
theorem dX6_worth_66 : decode cX6_worth 66 = .ok (.aload_n 0, 1) := by decide +kernel
theorem dX6_worth_67 : decode cX6_worth 67 = .ok (.getfield 89, 3) := by decide +kernel
theorem dX6_worth_70 : decode cX6_worth 70 = .ok (.bipush 105, 2) := by decide +kernel
theorem dX6_worth_72 : decode cX6_worth 72 = .ok (.iload 6, 2) := by decide +kernel
theorem dX6_worth_74 : decode cX6_worth 74 = .ok (.iastore, 1) := by decide +kernel
theorem dX6_worth_75 : decode cX6_worth 75 = .ok (.aload_n 0, 1) := by decide +kernel
theorem dX6_worth_76 : decode cX6_worth 76 = .ok (.getfield 89, 3) := by decide +kernel
theorem dX6_worth_79 : decode cX6_worth 79 = .ok (.bipush 110, 2) := by decide +kernel
theorem dX6_worth_81 : decode cX6_worth 81 = .ok (.iload 7, 2) := by decide +kernel
theorem dX6_worth_83 : decode cX6_worth 83 = .ok (.iastore, 1) := by decide +kernel
theorem dX6_worth_84 : decode cX6_worth 84 = .ok (.aload_n 0, 1) := by decide +kernel
theorem dX6_worth_85 : decode cX6_worth 85 = .ok (.getfield 89, 3) := by decide +kernel
theorem dX6_worth_88 : decode cX6_worth 88 = .ok (.bipush 107, 2) := by decide +kernel
theorem dX6_worth_90 : decode cX6_worth 90 = .ok (.iload 8, 2) := by decide +kernel
theorem dX6_worth_92 : decode cX6_worth 92 = .ok (.iastore, 1) := by decide +kernel
theorem dX6_worth_93 : decode cX6_worth 93 = .ok (.aload_n 0, 1) := by decide +kernel
theorem dX6_worth_94 : decode cX6_worth 94 = .ok (.iload_n 1, 1) := by decide +kernel
theorem dX6_worth_95 : decode cX6_worth 95 = .ok (.iload_n 2, 1) := by decide +kernel
theorem dX6_worth_96 : decode cX6_worth 96 = .ok (.invokevirtual 316, 3) := by decide +kernel
theorem dX6_worth_99 : decode cX6_worth 99 = .ok (.ireturn, 1) := by decide +kernel
abbrev rm_X6_worth : Room := k2_rm 5 107
section
variable {p : Program} {l : Launch} {e : Env} {s : State} {m : MethodId} {args : Array Value} {below : List Frame} {meth : Method} {c : Code} {D : gD} {A : Nat → Prop} {ad : Nat → Nat} {S : Nat → Nat × Nat} {σ : Mem}
set_option maxRecDepth 100000 in
set_option maxHeartbeats 4000000 in
theorem w_X6_worth {a1 : Int32} {a2 : Int32} {a3 : Int32} {a4 : Int32} {a5 : Int32} {a6 : Int32} {a7 : Int32} {a8 : Int32} (hi0 : S 200 = (24, 0)) {r : (Mem × Int32)} (h : f_X6_worth σ a1 a2 a3 a4 a5 a6 a7 a8 = some r) : Met l yX6_worth (ws_ yX6_worth cX6_worth 9 (some .int)) rm_X6_worth (va_Pc [.ref (ad 200), .int a1, .int a2, .int a3, .int a4, .int a5, .int a6, .int a7, .int a8] (PreG D (Ew D A) A ad S σ)) (QG D A ad S (some (.int r.2)) r.1) 0 0 A := by
  refine y_met (by decide) (Nat.le_of_ble_eq_true rfl) (fun p e s m below meth c ls Z hS hl => ?_)
  have hx := Z.1
  have hb := Z.2.1
  have hown := Z.2.2.2.2.2.1
  have hts := Z.2.2.2.2.2.2.1
  unfold f_X6_worth at h
  refine lv_aload_n hx hb dX6_worth_0 rfl (lv_at hl 0 rfl) ?_
  refine lv_iload_n hx hb dX6_worth_1 rfl (lv_at hl 1 rfl) ?_
  refine lv_iconst (v := (0 : Int32)) hx hb dX6_worth_2 (by decide) ?_
  refine lv_aload_n hx hb dX6_worth_3 rfl (lv_at hl 0 rfl) ?_
  refine h_getI Z hS cls_14 hi0 (by decide) rfl fl_X6_290_14 dX6_worth_4 h (fun x1 h => ?_)
  refine lv_iconst (v := (1 : Int32)) hx hb dX6_worth_7 (by decide) ?_
  refine lv_isub hx hb dX6_worth_8 ?_
  refine h_ci hS h (fun z hz => h_rS (rest := [.ref (ad 200)]) Z hS v_X6_161 (w_X6_in hz) rfl rfl ⟨by decide, by decide⟩ rfl hl.1 rfl (Nat.le_of_ble_eq_true rfl) (Nat.zero_le _) (Nat.zero_le _) dX6_worth_9) (fun x2 H locs hS h => ?_)
  obtain ⟨x4, hp5, h⟩ := bnd_el h
  have K5 : ∀ (H : Heap) (locs : List Loc) (ls : Array Slot), St D A ad S σ s.heap H locs → lv_has ls 9 [(0, .ref (ad 200)), (1, .int a1), (2, .int a2), (3, .int a3), (4, .int a4), (5, .int a5), (6, .int a6), (7, .int a7), (8, .int a8)] → W p l e rm_X6_worth s m ([.ref (ad 200), .int a1, .int a2, .int a3, .int a4, .int a5, .int a6, .int a7, .int a8] : List Value).toArray below meth c H locs 0 0 (MQ below (QG D A ad S (some (.int r.2)) r.1) ([.ref (ad 200), .int a1, .int a2, .int a3, .int a4, .int a5, .int a6, .int a7, .int a8] : List Value).toArray s 0 0 A) (F0 m 27 ls [.int x4, .ref (ad 200)]) := by
    intro H locs ls hS hl
    refine h_putI Z hS cls_14 hi0 (by decide) rfl rfl rfl fl_X6_157_14 dX6_worth_27 h (fun σ6 H locs hS h => ?_)
    refine lv_aload_n hx hb dX6_worth_30 rfl (lv_at hl 0 rfl) ?_
    refine h_getI Z hS cls_14 hi0 (by decide) rfl fl_X6_157_14 dX6_worth_31 h (fun x7 h => ?_)
    refine lv_iconst (v := (1 : Int32)) hx hb dX6_worth_34 (by decide) ?_
    refine lv_icmp_ne (tgt := 40) hx hb dX6_worth_35 (by decide) (fun c8 => ?_) (fun c8 => ?_)
    · have h := if_f h c8
      refine lv_aload_n hx hb dX6_worth_40 rfl (lv_at hl 0 rfl) ?_
      refine h_getC (n := 36) (j := 236) (sh := (1, 128)) Z hS cls_14 hi0 (by decide) rfl rfl rfl fl_X6_89_14 dX6_worth_41 (fun hc9 => ?_)
      refine lv_bipush (v := (112 : Int32)) hx hb dX6_worth_44 (by decide) ?_
      refine lv_iload_n hx hb dX6_worth_46 rfl (lv_at hl 3 rfl) ?_
      refine h_iast Z hS hc9 dX6_worth_47 h (fun σ10 H locs hS h => ?_)
      refine lv_aload_n hx hb dX6_worth_48 rfl (lv_at hl 0 rfl) ?_
      refine h_getC (n := 36) (j := 236) (sh := (1, 128)) Z hS cls_14 hi0 (by decide) rfl rfl rfl fl_X6_89_14 dX6_worth_49 (fun hc11 => ?_)
      refine lv_bipush (v := (104 : Int32)) hx hb dX6_worth_52 (by decide) ?_
      refine lv_iload hx hb dX6_worth_54 (lv_at hl 4 rfl) ?_
      refine h_iast Z hS hc11 dX6_worth_56 h (fun σ12 H locs hS h => ?_)
      refine lv_aload_n hx hb dX6_worth_57 rfl (lv_at hl 0 rfl) ?_
      refine h_getC (n := 36) (j := 236) (sh := (1, 128)) Z hS cls_14 hi0 (by decide) rfl rfl rfl fl_X6_89_14 dX6_worth_58 (fun hc13 => ?_)
      refine lv_bipush (v := (111 : Int32)) hx hb dX6_worth_61 (by decide) ?_
      refine lv_iload hx hb dX6_worth_63 (lv_at hl 5 rfl) ?_
      refine h_iast Z hS hc13 dX6_worth_65 h (fun σ14 H locs hS h => ?_)
      refine lv_aload_n hx hb dX6_worth_66 rfl (lv_at hl 0 rfl) ?_
      refine h_getC (n := 36) (j := 236) (sh := (1, 128)) Z hS cls_14 hi0 (by decide) rfl rfl rfl fl_X6_89_14 dX6_worth_67 (fun hc15 => ?_)
      refine lv_bipush (v := (105 : Int32)) hx hb dX6_worth_70 (by decide) ?_
      refine lv_iload hx hb dX6_worth_72 (lv_at hl 6 rfl) ?_
      refine h_iast Z hS hc15 dX6_worth_74 h (fun σ16 H locs hS h => ?_)
      refine lv_aload_n hx hb dX6_worth_75 rfl (lv_at hl 0 rfl) ?_
      refine h_getC (n := 36) (j := 236) (sh := (1, 128)) Z hS cls_14 hi0 (by decide) rfl rfl rfl fl_X6_89_14 dX6_worth_76 (fun hc17 => ?_)
      refine lv_bipush (v := (110 : Int32)) hx hb dX6_worth_79 (by decide) ?_
      refine lv_iload hx hb dX6_worth_81 (lv_at hl 7 rfl) ?_
      refine h_iast Z hS hc17 dX6_worth_83 h (fun σ18 H locs hS h => ?_)
      refine lv_aload_n hx hb dX6_worth_84 rfl (lv_at hl 0 rfl) ?_
      refine h_getC (n := 36) (j := 236) (sh := (1, 128)) Z hS cls_14 hi0 (by decide) rfl rfl rfl fl_X6_89_14 dX6_worth_85 (fun hc19 => ?_)
      refine lv_bipush (v := (107 : Int32)) hx hb dX6_worth_88 (by decide) ?_
      refine lv_iload hx hb dX6_worth_90 (lv_at hl 8 rfl) ?_
      refine h_iast Z hS hc19 dX6_worth_92 h (fun σ20 H locs hS h => ?_)
      refine lv_aload_n hx hb dX6_worth_93 rfl (lv_at hl 0 rfl) ?_
      refine lv_iload_n hx hb dX6_worth_94 rfl (lv_at hl 1 rfl) ?_
      refine lv_iload_n hx hb dX6_worth_95 rfl (lv_at hl 2 rfl) ?_
      refine h_cim hS h (fun z hz => h_rV (rest := []) Z hS hi0 rfl v_X6_316 (w_X6_worthBy hi0 hz) rfl rfl ⟨by decide, by decide⟩ rfl hl.1 rfl (Nat.le_of_ble_eq_true rfl) (Nat.zero_le _) (Nat.zero_le _) dX6_worth_96) (fun σ21 x22 H locs hS h => ?_)
      exact h_iretm Z hS dX6_worth_99 h
    · have h := if_t h c8
      refine lv_iconst (v := (0 : Int32)) hx hb dX6_worth_38 (by decide) ?_
      exact h_iretm Z hS dX6_worth_39 h
  clear h
  have h := hp5
  clear hp5
  refine lv_if_eq (tgt := 26) hx hb dX6_worth_12 (by decide) (fun c3 => ?_) (fun c3 => ?_)
  · have h := if_t h c3
    refine lv_iconst (v := (1 : Int32)) hx hb dX6_worth_26 (by decide) ?_
    cases h
    exact K5 _ _ _ hS (lv_sub hl [0, 1, 2, 3, 4, 5, 6, 7, 8] rfl)
  · have h := if_f h c3
    refine lv_iload_n hx hb dX6_worth_15 rfl (lv_at hl 2 rfl) ?_
    refine h_ci hS h (fun z hz => h_rS (rest := [.ref (ad 200)]) Z hS v_X6_284 (w_X6_isLabel hz) rfl rfl ⟨by decide, by decide⟩ rfl hl.1 rfl (Nat.le_of_ble_eq_true rfl) (Nat.zero_le _) (Nat.zero_le _) dX6_worth_16) (fun x23 H locs hS h => ?_)
    refine lv_if_eq (tgt := 26) hx hb dX6_worth_19 (by decide) (fun c24 => ?_) (fun c24 => ?_)
    · have h := if_t h c24
      refine lv_iconst (v := (1 : Int32)) hx hb dX6_worth_26 (by decide) ?_
      cases h
      exact K5 _ _ _ hS (lv_sub hl [0, 1, 2, 3, 4, 5, 6, 7, 8] rfl)
    · have h := if_f h c24
      refine lv_iconst (v := (0 : Int32)) hx hb dX6_worth_22 (by decide) ?_
      refine lv_goto (tgt := 27) hx hb dX6_worth_23 (by decide) ?_
      cases h
      exact K5 _ _ _ hS (lv_sub hl [0, 1, 2, 3, 4, 5, 6, 7, 8] rfl)
end
