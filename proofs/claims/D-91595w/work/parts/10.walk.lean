set_option maxRecDepth 100000
theorem dX6_thrown_0 : decode cX6_thrown 0 = .ok (.aload_n 0, 1) := by decide +kernel
theorem dX6_thrown_1 : decode cX6_thrown 1 = .ok (.getfield 157, 3) := by decide +kernel
theorem dX6_thrown_4 : decode cX6_thrown 4 = .ok (.ireturn, 1) := by decide +kernel
abbrev rm_X6_thrown : Room := k2_rm 0 0
section
variable {p : Program} {l : Launch} {e : Env} {s : State} {m : MethodId} {args : Array Value} {below : List Frame} {meth : Method} {c : Code} {D : gD} {A : Nat → Prop} {ad : Nat → Nat} {S : Nat → Nat × Nat} {σ : Mem}
set_option maxRecDepth 100000 in
set_option maxHeartbeats 4000000 in
theorem w_X6_thrown (hi0 : S 200 = (24, 0)) {r : Int32} (h : f_X6_thrown σ = some r) : Met l yX6_thrown (ws_ yX6_thrown cX6_thrown 1 (some .int)) rm_X6_thrown (va_Pc [.ref (ad 200)] (PreG D (Ew D A) A ad S σ)) (QG D A ad S (some (.int r)) σ) 0 0 A := by
  refine y_met (by decide) (Nat.le_of_ble_eq_true rfl) (fun p e s m below meth c ls Z hS hl => ?_)
  have hx := Z.1
  have hb := Z.2.1
  have hown := Z.2.2.2.2.2.1
  have hts := Z.2.2.2.2.2.2.1
  unfold f_X6_thrown at h
  refine lv_aload_n hx hb dX6_thrown_0 rfl (lv_at hl 0 rfl) ?_
  refine h_getI Z hS cls_14 hi0 (by decide) rfl fl_X6_157_14 dX6_thrown_1 h (fun x1 h => ?_)
  exact h_iret Z hS dX6_thrown_4 h
end
theorem dX6_in_0 : decode cX6_in 0 = .ok (.iload_n 0, 1) := by decide +kernel
theorem dX6_in_1 : decode cX6_in 1 = .ok (.iload_n 1, 1) := by decide +kernel
theorem dX6_in_2 : decode cX6_in 2 = .ok (.if_icmp .lt 12, 3) := by decide +kernel
theorem dX6_in_5 : decode cX6_in 5 = .ok (.iload_n 0, 1) := by decide +kernel
theorem dX6_in_6 : decode cX6_in 6 = .ok (.iload_n 2, 1) := by decide +kernel
theorem dX6_in_7 : decode cX6_in 7 = .ok (.if_icmp .gt 7, 3) := by decide +kernel
theorem dX6_in_10 : decode cX6_in 10 = .ok (.iconst 1, 1) := by decide +kernel
theorem dX6_in_11 : decode cX6_in 11 = .ok (.goto 4, 3) := by decide +kernel
theorem dX6_in_14 : decode cX6_in 14 = .ok (.iconst 0, 1) := by decide +kernel
theorem dX6_in_15 : decode cX6_in 15 = .ok (.ireturn, 1) := by decide +kernel
abbrev rm_X6_in : Room := k2_rm 0 0
section
variable {p : Program} {l : Launch} {e : Env} {s : State} {m : MethodId} {args : Array Value} {below : List Frame} {meth : Method} {c : Code} {D : gD} {A : Nat → Prop} {ad : Nat → Nat} {S : Nat → Nat × Nat} {σ : Mem}
set_option maxRecDepth 100000 in
set_option maxHeartbeats 4000000 in
theorem w_X6_in {a1 : Int32} {a2 : Int32} {a3 : Int32} {r : Int32} (h : f_X6_in σ a1 a2 a3 = some r) : Met l yX6_in (ws_ yX6_in cX6_in 3 (some .boolean)) rm_X6_in (va_Pc [.int a1, .int a2, .int a3] (PreG D (Ew D A) A ad S σ)) (QG D A ad S (some (.int r)) σ) 0 0 A := by
  refine y_met (by decide) (Nat.le_of_ble_eq_true rfl) (fun p e s m below meth c ls Z hS hl => ?_)
  have hx := Z.1
  have hb := Z.2.1
  have hown := Z.2.2.2.2.2.1
  have hts := Z.2.2.2.2.2.2.1
  unfold f_X6_in at h
  refine lv_iload_n hx hb dX6_in_0 rfl (lv_at hl 0 rfl) ?_
  refine lv_iload_n hx hb dX6_in_1 rfl (lv_at hl 1 rfl) ?_
  refine lv_icmp_lt (tgt := 14) hx hb dX6_in_2 (by decide) (fun c1 => ?_) (fun c1 => ?_)
  · have h := if_t h c1
    refine lv_iconst (v := (0 : Int32)) hx hb dX6_in_14 (by decide) ?_
    exact h_zret Z hS dX6_in_15 h
  · have h := if_f h c1
    refine lv_iload_n hx hb dX6_in_5 rfl (lv_at hl 0 rfl) ?_
    refine lv_iload_n hx hb dX6_in_6 rfl (lv_at hl 2 rfl) ?_
    refine lv_icmp_gt (tgt := 14) hx hb dX6_in_7 (by decide) (fun c2 => ?_) (fun c2 => ?_)
    · have h := if_t h c2
      refine lv_iconst (v := (0 : Int32)) hx hb dX6_in_14 (by decide) ?_
      exact h_zret Z hS dX6_in_15 h
    · have h := if_f h c2
      refine lv_iconst (v := (1 : Int32)) hx hb dX6_in_10 (by decide) ?_
      refine lv_goto (tgt := 15) hx hb dX6_in_11 (by decide) ?_
      exact h_zret Z hS dX6_in_15 h
end
theorem dX6_grain_0 : decode cX6_grain 0 = .ok (.iload_n 1, 1) := by decide +kernel
theorem dX6_grain_1 : decode cX6_grain 1 = .ok (.iconst 0, 1) := by decide +kernel
theorem dX6_grain_2 : decode cX6_grain 2 = .ok (.bipush 7, 2) := by decide +kernel
theorem dX6_grain_4 : decode cX6_grain 4 = .ok (.invokestatic 161, 3) := by decide +kernel
theorem dX6_grain_7 : decode cX6_grain 7 = .ok (.ifCond .eq 23, 3) := by decide +kernel
theorem dX6_grain_10 : decode cX6_grain 10 = .ok (.iload_n 2, 1) := by decide +kernel
theorem dX6_grain_11 : decode cX6_grain 11 = .ok (.iconst 0, 1) := by decide +kernel
theorem dX6_grain_12 : decode cX6_grain 12 = .ok (.iconst 2, 1) := by decide +kernel
theorem dX6_grain_13 : decode cX6_grain 13 = .ok (.invokestatic 161, 3) := by decide +kernel
theorem dX6_grain_16 : decode cX6_grain 16 = .ok (.ifCond .eq 14, 3) := by decide +kernel
theorem dX6_grain_19 : decode cX6_grain 19 = .ok (.iload_n 3, 1) := by decide +kernel
theorem dX6_grain_20 : decode cX6_grain 20 = .ok (.iconst 0, 1) := by decide +kernel
theorem dX6_grain_21 : decode cX6_grain 21 = .ok (.sipush 1000, 3) := by decide +kernel
theorem dX6_grain_24 : decode cX6_grain 24 = .ok (.invokestatic 161, 3) := by decide +kernel
theorem dX6_grain_27 : decode cX6_grain 27 = .ok (.ifCond .ne 5, 3) := by decide +kernel
theorem dX6_grain_30 : decode cX6_grain 30 = .ok (.iconst 0, 1) := by decide +kernel
theorem dX6_grain_31 : decode cX6_grain 31 = .ok (.ireturn, 1) := by decide +kernel
theorem dX6_grain_32 : decode cX6_grain 32 = .ok (.iload_n 2, 1) := by decide +kernel
theorem dX6_grain_33 : decode cX6_grain 33 = .ok (.ifCond .ne 13, 3) := by decide +kernel
theorem dX6_grain_36 : decode cX6_grain 36 = .ok (.aload_n 0, 1) := by decide +kernel
theorem dX6_grain_37 : decode cX6_grain 37 = .ok (.getfield 9, 3) := by decide +kernel
theorem dX6_grain_40 : decode cX6_grain 40 = .ok (.iload_n 1, 1) := by decide +kernel
theorem dX6_grain_41 : decode cX6_grain 41 = .ok (.iload_n 3, 1) := by decide +kernel
theorem dX6_grain_42 : decode cX6_grain 42 = .ok (.iastore, 1) := by decide +kernel
theorem dX6_grain_43 : decode cX6_grain 43 = .ok (.goto 25, 3) := by decide +kernel
theorem dX6_grain_46 : decode cX6_grain 46 = .ok (.iload_n 2, 1) := by decide +kernel
theorem dX6_grain_47 : decode cX6_grain 47 = .ok (.iconst 1, 1) := by decide +kernel
theorem dX6_grain_48 : decode cX6_grain 48 = .ok (.if_icmp .ne 13, 3) := by decide +kernel
theorem dX6_grain_51 : decode cX6_grain 51 = .ok (.aload_n 0, 1) := by decide +kernel
theorem dX6_grain_52 : decode cX6_grain 52 = .ok (.getfield 13, 3) := by decide +kernel
theorem dX6_grain_55 : decode cX6_grain 55 = .ok (.iload_n 1, 1) := by decide +kernel
theorem dX6_grain_56 : decode cX6_grain 56 = .ok (.iload_n 3, 1) := by decide +kernel
theorem dX6_grain_57 : decode cX6_grain 57 = .ok (.iastore, 1) := by decide +kernel
theorem dX6_grain_58 : decode cX6_grain 58 = .ok (.goto 10, 3) := by decide +kernel
theorem dX6_grain_61 : decode cX6_grain 61 = .ok (.aload_n 0, 1) := by decide +kernel
theorem dX6_grain_62 : decode cX6_grain 62 = .ok (.getfield 16, 3) := by decide +kernel
theorem dX6_grain_65 : decode cX6_grain 65 = .ok (.iload_n 1, 1) := by decide +kernel
theorem dX6_grain_66 : decode cX6_grain 66 = .ok (.iload_n 3, 1) := by decide +kernel
theorem dX6_grain_67 : decode cX6_grain 67 = .ok (.iastore, 1) := by decide +kernel
theorem dX6_grain_68 : decode cX6_grain 68 = .ok (.iconst 1, 1) := by decide +kernel
theorem dX6_grain_69 : decode cX6_grain 69 = .ok (.ireturn, 1) := by decide +kernel
abbrev rm_X6_grain : Room := k2_rm 1 22
section
variable {p : Program} {l : Launch} {e : Env} {s : State} {m : MethodId} {args : Array Value} {below : List Frame} {meth : Method} {c : Code} {D : gD} {A : Nat → Prop} {ad : Nat → Nat} {S : Nat → Nat × Nat} {σ : Mem}
set_option maxRecDepth 100000 in
set_option maxHeartbeats 4000000 in
theorem w_X6_grain {a1 : Int32} {a2 : Int32} {a3 : Int32} (hi0 : S 200 = (24, 0)) {r : (Mem × Int32)} (h : f_X6_grain σ a1 a2 a3 = some r) : Met l yX6_grain (ws_ yX6_grain cX6_grain 4 (some .boolean)) rm_X6_grain (va_Pc [.ref (ad 200), .int a1, .int a2, .int a3] (PreG D (Ew D A) A ad S σ)) (QG D A ad S (some (.int r.2)) r.1) 0 0 A := by
  refine y_met (by decide) (Nat.le_of_ble_eq_true rfl) (fun p e s m below meth c ls Z hS hl => ?_)
  have hx := Z.1
  have hb := Z.2.1
  have hown := Z.2.2.2.2.2.1
  have hts := Z.2.2.2.2.2.2.1
  unfold f_X6_grain at h
  refine lv_iload_n hx hb dX6_grain_0 rfl (lv_at hl 1 rfl) ?_
  refine lv_iconst (v := (0 : Int32)) hx hb dX6_grain_1 (by decide) ?_
  refine lv_bipush (v := (7 : Int32)) hx hb dX6_grain_2 (by decide) ?_
  refine h_ci hS h (fun z hz => h_rS (rest := []) Z hS v_X6_161 (w_X6_in hz) rfl rfl ⟨by decide, by decide⟩ rfl hl.1 rfl (Nat.le_of_ble_eq_true rfl) (Nat.zero_le _) (Nat.zero_le _) dX6_grain_4) (fun x1 H locs hS h => ?_)
  refine lv_if_eq (tgt := 30) hx hb dX6_grain_7 (by decide) (fun c2 => ?_) (fun c2 => ?_)
  · have h := if_t h c2
    refine lv_iconst (v := (0 : Int32)) hx hb dX6_grain_30 (by decide) ?_
    exact h_zretm Z hS dX6_grain_31 h
  · have h := if_f h c2
    refine lv_iload_n hx hb dX6_grain_10 rfl (lv_at hl 2 rfl) ?_
    refine lv_iconst (v := (0 : Int32)) hx hb dX6_grain_11 (by decide) ?_
    refine lv_iconst (v := (2 : Int32)) hx hb dX6_grain_12 (by decide) ?_
    refine h_ci hS h (fun z hz => h_rS (rest := []) Z hS v_X6_161 (w_X6_in hz) rfl rfl ⟨by decide, by decide⟩ rfl hl.1 rfl (Nat.le_of_ble_eq_true rfl) (Nat.zero_le _) (Nat.zero_le _) dX6_grain_13) (fun x3 H locs hS h => ?_)
    refine lv_if_eq (tgt := 30) hx hb dX6_grain_16 (by decide) (fun c4 => ?_) (fun c4 => ?_)
    · have h := if_t h c4
      refine lv_iconst (v := (0 : Int32)) hx hb dX6_grain_30 (by decide) ?_
      exact h_zretm Z hS dX6_grain_31 h
    · have h := if_f h c4
      refine lv_iload_n hx hb dX6_grain_19 rfl (lv_at hl 3 rfl) ?_
      refine lv_iconst (v := (0 : Int32)) hx hb dX6_grain_20 (by decide) ?_
      refine lv_sipush (v := (1000 : Int32)) hx hb dX6_grain_21 (by decide) ?_
      refine h_ci hS h (fun z hz => h_rS (rest := []) Z hS v_X6_161 (w_X6_in hz) rfl rfl ⟨by decide, by decide⟩ rfl hl.1 rfl (Nat.le_of_ble_eq_true rfl) (Nat.zero_le _) (Nat.zero_le _) dX6_grain_24) (fun x5 H locs hS h => ?_)
      refine lv_if_ne (tgt := 32) hx hb dX6_grain_27 (by decide) (fun c6 => ?_) (fun c6 => ?_)
      · have h := if_f h c6
        refine lv_iload_n hx hb dX6_grain_32 rfl (lv_at hl 2 rfl) ?_
        refine lv_if_ne (tgt := 46) hx hb dX6_grain_33 (by decide) (fun c7 => ?_) (fun c7 => ?_)
        · have h := if_f h c7
          refine lv_iload_n hx hb dX6_grain_46 rfl (lv_at hl 2 rfl) ?_
          refine lv_iconst (v := (1 : Int32)) hx hb dX6_grain_47 (by decide) ?_
          refine lv_icmp_ne (tgt := 61) hx hb dX6_grain_48 (by decide) (fun c10 => ?_) (fun c10 => ?_)
          · have h := if_f h c10
            refine lv_aload_n hx hb dX6_grain_61 rfl (lv_at hl 0 rfl) ?_
            refine h_getC (n := 5) (j := 205) (sh := (1, 8)) Z hS cls_14 hi0 (by decide) rfl rfl rfl fl_X6_16_14 dX6_grain_62 (fun hc13 => ?_)
            refine lv_iload_n hx hb dX6_grain_65 rfl (lv_at hl 1 rfl) ?_
            refine lv_iload_n hx hb dX6_grain_66 rfl (lv_at hl 3 rfl) ?_
            refine h_iast Z hS hc13 dX6_grain_67 h (fun σ14 H locs hS h => ?_)
            refine lv_iconst (v := (1 : Int32)) hx hb dX6_grain_68 (by decide) ?_
            exact h_zretm Z hS dX6_grain_69 h
          · have h := if_t h c10
            refine lv_aload_n hx hb dX6_grain_51 rfl (lv_at hl 0 rfl) ?_
            refine h_getC (n := 4) (j := 204) (sh := (1, 8)) Z hS cls_14 hi0 (by decide) rfl rfl rfl fl_X6_13_14 dX6_grain_52 (fun hc11 => ?_)
            refine lv_iload_n hx hb dX6_grain_55 rfl (lv_at hl 1 rfl) ?_
            refine lv_iload_n hx hb dX6_grain_56 rfl (lv_at hl 3 rfl) ?_
            refine h_iast Z hS hc11 dX6_grain_57 h (fun σ12 H locs hS h => ?_)
            refine lv_goto (tgt := 68) hx hb dX6_grain_58 (by decide) ?_
            refine lv_iconst (v := (1 : Int32)) hx hb dX6_grain_68 (by decide) ?_
            exact h_zretm Z hS dX6_grain_69 h
        · have h := if_t h c7
          refine lv_aload_n hx hb dX6_grain_36 rfl (lv_at hl 0 rfl) ?_
          refine h_getC (n := 3) (j := 203) (sh := (1, 8)) Z hS cls_14 hi0 (by decide) rfl rfl rfl fl_X6_9_14 dX6_grain_37 (fun hc8 => ?_)
          refine lv_iload_n hx hb dX6_grain_40 rfl (lv_at hl 1 rfl) ?_
          refine lv_iload_n hx hb dX6_grain_41 rfl (lv_at hl 3 rfl) ?_
          refine h_iast Z hS hc8 dX6_grain_42 h (fun σ9 H locs hS h => ?_)
          refine lv_goto (tgt := 68) hx hb dX6_grain_43 (by decide) ?_
          refine lv_iconst (v := (1 : Int32)) hx hb dX6_grain_68 (by decide) ?_
          exact h_zretm Z hS dX6_grain_69 h
      · have h := if_t h c6
        refine lv_iconst (v := (0 : Int32)) hx hb dX6_grain_30 (by decide) ?_
        exact h_zretm Z hS dX6_grain_31 h
end
theorem dX6_filter_0 : decode cX6_filter 0 = .ok (.aload_n 0, 1) := by decide +kernel
theorem dX6_filter_1 : decode cX6_filter 1 = .ok (.getfield 165, 3) := by decide +kernel
theorem dX6_filter_4 : decode cX6_filter 4 = .ok (.bipush 8, 2) := by decide +kernel
theorem dX6_filter_6 : decode cX6_filter 6 = .ok (.if_icmp .ne 5, 3) := by decide +kernel
theorem dX6_filter_9 : decode cX6_filter 9 = .ok (.iconst (-1), 1) := by decide +kernel
theorem dX6_filter_10 : decode cX6_filter 10 = .ok (.ireturn, 1) := by decide +kernel
theorem dX6_filter_11 : decode cX6_filter 11 = .ok (.aload_n 0, 1) := by decide +kernel
theorem dX6_filter_12 : decode cX6_filter 12 = .ok (.getfield 40, 3) := by decide +kernel
theorem dX6_filter_15 : decode cX6_filter 15 = .ok (.aload_n 0, 1) := by decide +kernel
theorem dX6_filter_16 : decode cX6_filter 16 = .ok (.getfield 165, 3) := by decide +kernel
theorem dX6_filter_19 : decode cX6_filter 19 = .ok (.bipush 100, 2) := by decide +kernel
theorem dX6_filter_21 : decode cX6_filter 21 = .ok (.iastore, 1) := by decide +kernel
theorem dX6_filter_22 : decode cX6_filter 22 = .ok (.aload_n 0, 1) := by decide +kernel
theorem dX6_filter_23 : decode cX6_filter 23 = .ok (.getfield 43, 3) := by decide +kernel
theorem dX6_filter_26 : decode cX6_filter 26 = .ok (.aload_n 0, 1) := by decide +kernel
theorem dX6_filter_27 : decode cX6_filter 27 = .ok (.getfield 165, 3) := by decide +kernel
theorem dX6_filter_30 : decode cX6_filter 30 = .ok (.sipush 500, 3) := by decide +kernel
theorem dX6_filter_33 : decode cX6_filter 33 = .ok (.iastore, 1) := by decide +kernel
theorem dX6_filter_34 : decode cX6_filter 34 = .ok (.aload_n 0, 1) := by decide +kernel
theorem dX6_filter_35 : decode cX6_filter 35 = .ok (.getfield 46, 3) := by decide +kernel
theorem dX6_filter_38 : decode cX6_filter 38 = .ok (.aload_n 0, 1) := by decide +kernel
theorem dX6_filter_39 : decode cX6_filter 39 = .ok (.getfield 165, 3) := by decide +kernel
theorem dX6_filter_42 : decode cX6_filter 42 = .ok (.bipush 50, 2) := by decide +kernel
theorem dX6_filter_44 : decode cX6_filter 44 = .ok (.iastore, 1) := by decide +kernel
theorem dX6_filter_45 : decode cX6_filter 45 = .ok (.aload_n 0, 1) := by decide +kernel
theorem dX6_filter_46 : decode cX6_filter 46 = .ok (.getfield 58, 3) := by decide +kernel
theorem dX6_filter_49 : decode cX6_filter 49 = .ok (.aload_n 0, 1) := by decide +kernel
theorem dX6_filter_50 : decode cX6_filter 50 = .ok (.getfield 165, 3) := by decide +kernel
theorem dX6_filter_53 : decode cX6_filter 53 = .ok (.iconst (-1), 1) := by decide +kernel
theorem dX6_filter_54 : decode cX6_filter 54 = .ok (.iastore, 1) := by decide +kernel
theorem dX6_filter_55 : decode cX6_filter 55 = .ok (.aload_n 0, 1) := by decide +kernel
theorem dX6_filter_56 : decode cX6_filter 56 = .ok (.getfield 102, 3) := by decide +kernel
theorem dX6_filter_59 : decode cX6_filter 59 = .ok (.aload_n 0, 1) := by decide +kernel
theorem dX6_filter_60 : decode cX6_filter 60 = .ok (.getfield 165, 3) := by decide +kernel
theorem dX6_filter_63 : decode cX6_filter 63 = .ok (.iconst (-1), 1) := by decide +kernel
theorem dX6_filter_64 : decode cX6_filter 64 = .ok (.iastore, 1) := by decide +kernel
theorem dX6_filter_65 : decode cX6_filter 65 = .ok (.aload_n 0, 1) := by decide +kernel
theorem dX6_filter_66 : decode cX6_filter 66 = .ok (.dup, 1) := by decide +kernel
theorem dX6_filter_67 : decode cX6_filter 67 = .ok (.getfield 165, 3) := by decide +kernel
theorem dX6_filter_70 : decode cX6_filter 70 = .ok (.iconst 1, 1) := by decide +kernel
theorem dX6_filter_71 : decode cX6_filter 71 = .ok (.iadd, 1) := by decide +kernel
theorem dX6_filter_72 : decode cX6_filter 72 = .ok (.putfield 165, 3) := by decide +kernel
theorem dX6_filter_75 : decode cX6_filter 75 = .ok (.aload_n 0, 1) := by decide +kernel
theorem dX6_filter_76 : decode cX6_filter 76 = .ok (.getfield 165, 3) := by decide +kernel
theorem dX6_filter_79 : decode cX6_filter 79 = .ok (.iconst 1, 1) := by decide +kernel
theorem dX6_filter_80 : decode cX6_filter 80 = .ok (.isub, 1) := by decide +kernel
theorem dX6_filter_81 : decode cX6_filter 81 = .ok (.ireturn, 1) := by decide +kernel
abbrev rm_X6_filter : Room := k2_rm 0 0
section
variable {p : Program} {l : Launch} {e : Env} {s : State} {m : MethodId} {args : Array Value} {below : List Frame} {meth : Method} {c : Code} {D : gD} {A : Nat → Prop} {ad : Nat → Nat} {S : Nat → Nat × Nat} {σ : Mem}
set_option maxRecDepth 100000 in
set_option maxHeartbeats 4000000 in
theorem w_X6_filter (hi0 : S 200 = (24, 0)) {r : (Mem × Int32)} (h : f_X6_filter σ = some r) : Met l yX6_filter (ws_ yX6_filter cX6_filter 1 (some .int)) rm_X6_filter (va_Pc [.ref (ad 200)] (PreG D (Ew D A) A ad S σ)) (QG D A ad S (some (.int r.2)) r.1) 0 0 A := by
  refine y_met (by decide) (Nat.le_of_ble_eq_true rfl) (fun p e s m below meth c ls Z hS hl => ?_)
  have hx := Z.1
  have hb := Z.2.1
  have hown := Z.2.2.2.2.2.1
  have hts := Z.2.2.2.2.2.2.1
  unfold f_X6_filter at h
  refine lv_aload_n hx hb dX6_filter_0 rfl (lv_at hl 0 rfl) ?_
  refine h_getI Z hS cls_14 hi0 (by decide) rfl fl_X6_165_14 dX6_filter_1 h (fun x1 h => ?_)
  refine lv_bipush (v := (8 : Int32)) hx hb dX6_filter_4 (by decide) ?_
  refine lv_icmp_ne (tgt := 11) hx hb dX6_filter_6 (by decide) (fun c2 => ?_) (fun c2 => ?_)
  · have h := if_f h c2
    refine lv_aload_n hx hb dX6_filter_11 rfl (lv_at hl 0 rfl) ?_
    refine h_getC (n := 13) (j := 213) (sh := (1, 9)) Z hS cls_14 hi0 (by decide) rfl rfl rfl fl_X6_40_14 dX6_filter_12 (fun hc3 => ?_)
    refine lv_aload_n hx hb dX6_filter_15 rfl (lv_at hl 0 rfl) ?_
    refine h_getI Z hS cls_14 hi0 (by decide) rfl fl_X6_165_14 dX6_filter_16 h (fun x4 h => ?_)
    refine lv_bipush (v := (100 : Int32)) hx hb dX6_filter_19 (by decide) ?_
    refine h_iast Z hS hc3 dX6_filter_21 h (fun σ5 H locs hS h => ?_)
    refine lv_aload_n hx hb dX6_filter_22 rfl (lv_at hl 0 rfl) ?_
    refine h_getC (n := 14) (j := 214) (sh := (1, 9)) Z hS cls_14 hi0 (by decide) rfl rfl rfl fl_X6_43_14 dX6_filter_23 (fun hc6 => ?_)
    refine lv_aload_n hx hb dX6_filter_26 rfl (lv_at hl 0 rfl) ?_
    refine h_getI Z hS cls_14 hi0 (by decide) rfl fl_X6_165_14 dX6_filter_27 h (fun x7 h => ?_)
    refine lv_sipush (v := (500 : Int32)) hx hb dX6_filter_30 (by decide) ?_
    refine h_iast Z hS hc6 dX6_filter_33 h (fun σ8 H locs hS h => ?_)
    refine lv_aload_n hx hb dX6_filter_34 rfl (lv_at hl 0 rfl) ?_
    refine h_getC (n := 15) (j := 215) (sh := (1, 9)) Z hS cls_14 hi0 (by decide) rfl rfl rfl fl_X6_46_14 dX6_filter_35 (fun hc9 => ?_)
    refine lv_aload_n hx hb dX6_filter_38 rfl (lv_at hl 0 rfl) ?_
    refine h_getI Z hS cls_14 hi0 (by decide) rfl fl_X6_165_14 dX6_filter_39 h (fun x10 h => ?_)
    refine lv_bipush (v := (50 : Int32)) hx hb dX6_filter_42 (by decide) ?_
    refine h_iast Z hS hc9 dX6_filter_44 h (fun σ11 H locs hS h => ?_)
    refine lv_aload_n hx hb dX6_filter_45 rfl (lv_at hl 0 rfl) ?_
    refine h_getC (n := 19) (j := 219) (sh := (1, 9)) Z hS cls_14 hi0 (by decide) rfl rfl rfl fl_X6_58_14 dX6_filter_46 (fun hc12 => ?_)
    refine lv_aload_n hx hb dX6_filter_49 rfl (lv_at hl 0 rfl) ?_
    refine h_getI Z hS cls_14 hi0 (by decide) rfl fl_X6_165_14 dX6_filter_50 h (fun x13 h => ?_)
    refine lv_iconst (v := (-1 : Int32)) hx hb dX6_filter_53 (by decide) ?_
    refine h_iast Z hS hc12 dX6_filter_54 h (fun σ14 H locs hS h => ?_)
    refine lv_aload_n hx hb dX6_filter_55 rfl (lv_at hl 0 rfl) ?_
    refine h_getC (n := 41) (j := 241) (sh := (1, 8)) Z hS cls_14 hi0 (by decide) rfl rfl rfl fl_X6_102_14 dX6_filter_56 (fun hc15 => ?_)
    refine lv_aload_n hx hb dX6_filter_59 rfl (lv_at hl 0 rfl) ?_
    refine h_getI Z hS cls_14 hi0 (by decide) rfl fl_X6_165_14 dX6_filter_60 h (fun x16 h => ?_)
    refine lv_iconst (v := (-1 : Int32)) hx hb dX6_filter_63 (by decide) ?_
    refine h_iast Z hS hc15 dX6_filter_64 h (fun σ17 H locs hS h => ?_)
    refine lv_aload_n hx hb dX6_filter_65 rfl (lv_at hl 0 rfl) ?_
    refine lv_dup hx hb dX6_filter_66 rfl ?_
    refine h_getI Z hS cls_14 hi0 (by decide) rfl fl_X6_165_14 dX6_filter_67 h (fun x18 h => ?_)
    refine lv_iconst (v := (1 : Int32)) hx hb dX6_filter_70 (by decide) ?_
    refine lv_iadd hx hb dX6_filter_71 ?_
    refine h_putI Z hS cls_14 hi0 (by decide) rfl rfl rfl fl_X6_165_14 dX6_filter_72 h (fun σ19 H locs hS h => ?_)
    refine lv_aload_n hx hb dX6_filter_75 rfl (lv_at hl 0 rfl) ?_
    refine h_getI Z hS cls_14 hi0 (by decide) rfl fl_X6_165_14 dX6_filter_76 h (fun x20 h => ?_)
    refine lv_iconst (v := (1 : Int32)) hx hb dX6_filter_79 (by decide) ?_
    refine lv_isub hx hb dX6_filter_80 ?_
    exact h_iretm Z hS dX6_filter_81 h
  · have h := if_t h c2
    refine lv_iconst (v := (-1 : Int32)) hx hb dX6_filter_9 (by decide) ?_
    exact h_iretm Z hS dX6_filter_10 h
end
theorem dX6_isFilter_0 : decode cX6_isFilter 0 = .ok (.iload_n 1, 1) := by decide +kernel
theorem dX6_isFilter_1 : decode cX6_isFilter 1 = .ok (.iconst 0, 1) := by decide +kernel
theorem dX6_isFilter_2 : decode cX6_isFilter 2 = .ok (.aload_n 0, 1) := by decide +kernel
theorem dX6_isFilter_3 : decode cX6_isFilter 3 = .ok (.getfield 165, 3) := by decide +kernel
theorem dX6_isFilter_6 : decode cX6_isFilter 6 = .ok (.iconst 1, 1) := by decide +kernel
theorem dX6_isFilter_7 : decode cX6_isFilter 7 = .ok (.isub, 1) := by decide +kernel
theorem dX6_isFilter_8 : decode cX6_isFilter 8 = .ok (.invokestatic 161, 3) := by decide +kernel
theorem dX6_isFilter_11 : decode cX6_isFilter 11 = .ok (.ireturn, 1) := by decide +kernel
abbrev rm_X6_isFilter : Room := k2_rm 1 22
section
variable {p : Program} {l : Launch} {e : Env} {s : State} {m : MethodId} {args : Array Value} {below : List Frame} {meth : Method} {c : Code} {D : gD} {A : Nat → Prop} {ad : Nat → Nat} {S : Nat → Nat × Nat} {σ : Mem}
set_option maxRecDepth 100000 in
set_option maxHeartbeats 4000000 in
theorem w_X6_isFilter {a1 : Int32} (hi0 : S 200 = (24, 0)) {r : Int32} (h : f_X6_isFilter σ a1 = some r) : Met l yX6_isFilter (ws_ yX6_isFilter cX6_isFilter 2 (some .boolean)) rm_X6_isFilter (va_Pc [.ref (ad 200), .int a1] (PreG D (Ew D A) A ad S σ)) (QG D A ad S (some (.int r)) σ) 0 0 A := by
  refine y_met (by decide) (Nat.le_of_ble_eq_true rfl) (fun p e s m below meth c ls Z hS hl => ?_)
  have hx := Z.1
  have hb := Z.2.1
  have hown := Z.2.2.2.2.2.1
  have hts := Z.2.2.2.2.2.2.1
  unfold f_X6_isFilter at h
  refine lv_iload_n hx hb dX6_isFilter_0 rfl (lv_at hl 1 rfl) ?_
  refine lv_iconst (v := (0 : Int32)) hx hb dX6_isFilter_1 (by decide) ?_
  refine lv_aload_n hx hb dX6_isFilter_2 rfl (lv_at hl 0 rfl) ?_
  refine h_getI Z hS cls_14 hi0 (by decide) rfl fl_X6_165_14 dX6_isFilter_3 h (fun x1 h => ?_)
  refine lv_iconst (v := (1 : Int32)) hx hb dX6_isFilter_6 (by decide) ?_
  refine lv_isub hx hb dX6_isFilter_7 ?_
  refine h_ci hS h (fun z hz => h_rS (rest := []) Z hS v_X6_161 (w_X6_in hz) rfl rfl ⟨by decide, by decide⟩ rfl hl.1 rfl (Nat.le_of_ble_eq_true rfl) (Nat.zero_le _) (Nat.zero_le _) dX6_isFilter_8) (fun x2 H locs hS h => ?_)
  exact h_zret Z hS dX6_isFilter_11 h
end
theorem dX6_cell_0 : decode cX6_cell 0 = .ok (.aload_n 0, 1) := by decide +kernel
theorem dX6_cell_1 : decode cX6_cell 1 = .ok (.iload_n 1, 1) := by decide +kernel
theorem dX6_cell_2 : decode cX6_cell 2 = .ok (.invokevirtual 168, 3) := by decide +kernel
theorem dX6_cell_5 : decode cX6_cell 5 = .ok (.ifCond .eq 44, 3) := by decide +kernel
theorem dX6_cell_8 : decode cX6_cell 8 = .ok (.iload_n 2, 1) := by decide +kernel
theorem dX6_cell_9 : decode cX6_cell 9 = .ok (.iconst 1, 1) := by decide +kernel
theorem dX6_cell_10 : decode cX6_cell 10 = .ok (.bipush 20, 2) := by decide +kernel
theorem dX6_cell_12 : decode cX6_cell 12 = .ok (.invokestatic 161, 3) := by decide +kernel
theorem dX6_cell_15 : decode cX6_cell 15 = .ok (.ifCond .eq 34, 3) := by decide +kernel
theorem dX6_cell_18 : decode cX6_cell 18 = .ok (.iload_n 3, 1) := by decide +kernel
theorem dX6_cell_19 : decode cX6_cell 19 = .ok (.iconst 1, 1) := by decide +kernel
theorem dX6_cell_20 : decode cX6_cell 20 = .ok (.sipush 1000, 3) := by decide +kernel
theorem dX6_cell_23 : decode cX6_cell 23 = .ok (.invokestatic 161, 3) := by decide +kernel
theorem dX6_cell_26 : decode cX6_cell 26 = .ok (.ifCond .eq 23, 3) := by decide +kernel
theorem dX6_cell_29 : decode cX6_cell 29 = .ok (.aload_n 0, 1) := by decide +kernel
theorem dX6_cell_30 : decode cX6_cell 30 = .ok (.getfield 19, 3) := by decide +kernel
theorem dX6_cell_33 : decode cX6_cell 33 = .ok (.iload_n 1, 1) := by decide +kernel
theorem dX6_cell_34 : decode cX6_cell 34 = .ok (.iaload, 1) := by decide +kernel
theorem dX6_cell_35 : decode cX6_cell 35 = .ok (.bipush 10, 2) := by decide +kernel
theorem dX6_cell_37 : decode cX6_cell 37 = .ok (.if_icmp .eq 12, 3) := by decide +kernel
theorem dX6_cell_40 : decode cX6_cell 40 = .ok (.aload_n 0, 1) := by decide +kernel
theorem dX6_cell_41 : decode cX6_cell 41 = .ok (.getfield 74, 3) := by decide +kernel
theorem dX6_cell_44 : decode cX6_cell 44 = .ok (.iload_n 1, 1) := by decide +kernel
theorem dX6_cell_45 : decode cX6_cell 45 = .ok (.baload, 1) := by decide +kernel
theorem dX6_cell_46 : decode cX6_cell 46 = .ok (.ifCond .eq 5, 3) := by decide +kernel
theorem dX6_cell_49 : decode cX6_cell 49 = .ok (.iconst (-1), 1) := by decide +kernel
theorem dX6_cell_50 : decode cX6_cell 50 = .ok (.ireturn, 1) := by decide +kernel
theorem dX6_cell_51 : decode cX6_cell 51 = .ok (.aload_n 0, 1) := by decide +kernel
theorem dX6_cell_52 : decode cX6_cell 52 = .ok (.getfield 22, 3) := by decide +kernel
theorem dX6_cell_55 : decode cX6_cell 55 = .ok (.bipush 10, 2) := by decide +kernel
theorem dX6_cell_57 : decode cX6_cell 57 = .ok (.iload_n 1, 1) := by decide +kernel
theorem dX6_cell_58 : decode cX6_cell 58 = .ok (.imul, 1) := by decide +kernel
theorem dX6_cell_59 : decode cX6_cell 59 = .ok (.aload_n 0, 1) := by decide +kernel
theorem dX6_cell_60 : decode cX6_cell 60 = .ok (.getfield 19, 3) := by decide +kernel
theorem dX6_cell_63 : decode cX6_cell 63 = .ok (.iload_n 1, 1) := by decide +kernel
theorem dX6_cell_64 : decode cX6_cell 64 = .ok (.iaload, 1) := by decide +kernel
theorem dX6_cell_65 : decode cX6_cell 65 = .ok (.iadd, 1) := by decide +kernel
theorem dX6_cell_66 : decode cX6_cell 66 = .ok (.iload_n 2, 1) := by decide +kernel
theorem dX6_cell_67 : decode cX6_cell 67 = .ok (.iastore, 1) := by decide +kernel
theorem dX6_cell_68 : decode cX6_cell 68 = .ok (.aload_n 0, 1) := by decide +kernel
theorem dX6_cell_69 : decode cX6_cell 69 = .ok (.getfield 25, 3) := by decide +kernel
theorem dX6_cell_72 : decode cX6_cell 72 = .ok (.bipush 10, 2) := by decide +kernel
theorem dX6_cell_74 : decode cX6_cell 74 = .ok (.iload_n 1, 1) := by decide +kernel
theorem dX6_cell_75 : decode cX6_cell 75 = .ok (.imul, 1) := by decide +kernel
theorem dX6_cell_76 : decode cX6_cell 76 = .ok (.aload_n 0, 1) := by decide +kernel
theorem dX6_cell_77 : decode cX6_cell 77 = .ok (.getfield 19, 3) := by decide +kernel
theorem dX6_cell_80 : decode cX6_cell 80 = .ok (.iload_n 1, 1) := by decide +kernel
theorem dX6_cell_81 : decode cX6_cell 81 = .ok (.iaload, 1) := by decide +kernel
theorem dX6_cell_82 : decode cX6_cell 82 = .ok (.iadd, 1) := by decide +kernel
theorem dX6_cell_83 : decode cX6_cell 83 = .ok (.iload_n 2, 1) := by decide +kernel
theorem dX6_cell_84 : decode cX6_cell 84 = .ok (.iastore, 1) := by decide +kernel
theorem dX6_cell_85 : decode cX6_cell 85 = .ok (.aload_n 0, 1) := by decide +kernel
theorem dX6_cell_86 : decode cX6_cell 86 = .ok (.getfield 28, 3) := by decide +kernel
theorem dX6_cell_89 : decode cX6_cell 89 = .ok (.bipush 10, 2) := by decide +kernel
theorem dX6_cell_91 : decode cX6_cell 91 = .ok (.iload_n 1, 1) := by decide +kernel
theorem dX6_cell_92 : decode cX6_cell 92 = .ok (.imul, 1) := by decide +kernel
theorem dX6_cell_93 : decode cX6_cell 93 = .ok (.aload_n 0, 1) := by decide +kernel
theorem dX6_cell_94 : decode cX6_cell 94 = .ok (.getfield 19, 3) := by decide +kernel
theorem dX6_cell_97 : decode cX6_cell 97 = .ok (.iload_n 1, 1) := by decide +kernel
theorem dX6_cell_98 : decode cX6_cell 98 = .ok (.iaload, 1) := by decide +kernel
theorem dX6_cell_99 : decode cX6_cell 99 = .ok (.iadd, 1) := by decide +kernel
theorem dX6_cell_100 : decode cX6_cell 100 = .ok (.iload_n 3, 1) := by decide +kernel
theorem dX6_cell_101 : decode cX6_cell 101 = .ok (.iastore, 1) := by decide +kernel
theorem dX6_cell_102 : decode cX6_cell 102 = .ok (.aload_n 0, 1) := by decide +kernel
theorem dX6_cell_103 : decode cX6_cell 103 = .ok (.getfield 19, 3) := by decide +kernel
theorem dX6_cell_106 : decode cX6_cell 106 = .ok (.iload_n 1, 1) := by decide +kernel
theorem dX6_cell_107 : decode cX6_cell 107 = .ok (.dup2, 1) := by decide +kernel
theorem dX6_cell_108 : decode cX6_cell 108 = .ok (.iaload, 1) := by decide +kernel
theorem dX6_cell_109 : decode cX6_cell 109 = .ok (.iconst 1, 1) := by decide +kernel
theorem dX6_cell_110 : decode cX6_cell 110 = .ok (.iadd, 1) := by decide +kernel
theorem dX6_cell_111 : decode cX6_cell 111 = .ok (.iastore, 1) := by decide +kernel
theorem dX6_cell_112 : decode cX6_cell 112 = .ok (.aload_n 0, 1) := by decide +kernel
theorem dX6_cell_113 : decode cX6_cell 113 = .ok (.getfield 19, 3) := by decide +kernel
theorem dX6_cell_116 : decode cX6_cell 116 = .ok (.iload_n 1, 1) := by decide +kernel
theorem dX6_cell_117 : decode cX6_cell 117 = .ok (.iaload, 1) := by decide +kernel
theorem dX6_cell_118 : decode cX6_cell 118 = .ok (.ireturn, 1) := by decide +kernel
abbrev rm_X6_cell : Room := k2_rm 2 43
section
variable {p : Program} {l : Launch} {e : Env} {s : State} {m : MethodId} {args : Array Value} {below : List Frame} {meth : Method} {c : Code} {D : gD} {A : Nat → Prop} {ad : Nat → Nat} {S : Nat → Nat × Nat} {σ : Mem}
set_option maxRecDepth 100000 in
set_option maxHeartbeats 4000000 in
theorem w_X6_cell {a1 : Int32} {a2 : Int32} {a3 : Int32} (hi0 : S 200 = (24, 0)) {r : (Mem × Int32)} (h : f_X6_cell σ a1 a2 a3 = some r) : Met l yX6_cell (ws_ yX6_cell cX6_cell 4 (some .int)) rm_X6_cell (va_Pc [.ref (ad 200), .int a1, .int a2, .int a3] (PreG D (Ew D A) A ad S σ)) (QG D A ad S (some (.int r.2)) r.1) 0 0 A := by
  refine y_met (by decide) (Nat.le_of_ble_eq_true rfl) (fun p e s m below meth c ls Z hS hl => ?_)
  have hx := Z.1
  have hb := Z.2.1
  have hown := Z.2.2.2.2.2.1
  have hts := Z.2.2.2.2.2.2.1
  unfold f_X6_cell at h
  refine lv_aload_n hx hb dX6_cell_0 rfl (lv_at hl 0 rfl) ?_
  refine lv_iload_n hx hb dX6_cell_1 rfl (lv_at hl 1 rfl) ?_
  refine h_ci hS h (fun z hz => h_rV (rest := []) Z hS hi0 rfl v_X6_168 (w_X6_isFilter hi0 hz) rfl rfl ⟨by decide, by decide⟩ rfl hl.1 rfl (Nat.le_of_ble_eq_true rfl) (Nat.zero_le _) (Nat.zero_le _) dX6_cell_2) (fun x1 H locs hS h => ?_)
  refine lv_if_eq (tgt := 49) hx hb dX6_cell_5 (by decide) (fun c2 => ?_) (fun c2 => ?_)
  · have h := if_t h c2
    refine lv_iconst (v := (-1 : Int32)) hx hb dX6_cell_49 (by decide) ?_
    exact h_iretm Z hS dX6_cell_50 h
  · have h := if_f h c2
    refine lv_iload_n hx hb dX6_cell_8 rfl (lv_at hl 2 rfl) ?_
    refine lv_iconst (v := (1 : Int32)) hx hb dX6_cell_9 (by decide) ?_
    refine lv_bipush (v := (20 : Int32)) hx hb dX6_cell_10 (by decide) ?_
    refine h_ci hS h (fun z hz => h_rS (rest := []) Z hS v_X6_161 (w_X6_in hz) rfl rfl ⟨by decide, by decide⟩ rfl hl.1 rfl (Nat.le_of_ble_eq_true rfl) (Nat.zero_le _) (Nat.zero_le _) dX6_cell_12) (fun x3 H locs hS h => ?_)
    refine lv_if_eq (tgt := 49) hx hb dX6_cell_15 (by decide) (fun c4 => ?_) (fun c4 => ?_)
    · have h := if_t h c4
      refine lv_iconst (v := (-1 : Int32)) hx hb dX6_cell_49 (by decide) ?_
      exact h_iretm Z hS dX6_cell_50 h
    · have h := if_f h c4
      refine lv_iload_n hx hb dX6_cell_18 rfl (lv_at hl 3 rfl) ?_
      refine lv_iconst (v := (1 : Int32)) hx hb dX6_cell_19 (by decide) ?_
      refine lv_sipush (v := (1000 : Int32)) hx hb dX6_cell_20 (by decide) ?_
      refine h_ci hS h (fun z hz => h_rS (rest := []) Z hS v_X6_161 (w_X6_in hz) rfl rfl ⟨by decide, by decide⟩ rfl hl.1 rfl (Nat.le_of_ble_eq_true rfl) (Nat.zero_le _) (Nat.zero_le _) dX6_cell_23) (fun x5 H locs hS h => ?_)
      refine lv_if_eq (tgt := 49) hx hb dX6_cell_26 (by decide) (fun c6 => ?_) (fun c6 => ?_)
      · have h := if_t h c6
        refine lv_iconst (v := (-1 : Int32)) hx hb dX6_cell_49 (by decide) ?_
        exact h_iretm Z hS dX6_cell_50 h
      · have h := if_f h c6
        refine lv_aload_n hx hb dX6_cell_29 rfl (lv_at hl 0 rfl) ?_
        refine h_getC (n := 6) (j := 206) (sh := (1, 9)) Z hS cls_14 hi0 (by decide) rfl rfl rfl fl_X6_19_14 dX6_cell_30 (fun hc7 => ?_)
        refine lv_iload_n hx hb dX6_cell_33 rfl (lv_at hl 1 rfl) ?_
        refine h_iald Z hS hc7 dX6_cell_34 h (fun x8 h => ?_)
        refine lv_bipush (v := (10 : Int32)) hx hb dX6_cell_35 (by decide) ?_
        refine lv_icmp_eq (tgt := 49) hx hb dX6_cell_37 (by decide) (fun c9 => ?_) (fun c9 => ?_)
        · have h := if_t h c9
          refine lv_iconst (v := (-1 : Int32)) hx hb dX6_cell_49 (by decide) ?_
          exact h_iretm Z hS dX6_cell_50 h
        · have h := if_f h c9
          refine lv_aload_n hx hb dX6_cell_40 rfl (lv_at hl 0 rfl) ?_
          refine h_getC (n := 24) (j := 224) (sh := (3, 9)) Z hS cls_14 hi0 (by decide) rfl rfl rfl fl_X6_74_14 dX6_cell_41 (fun hc10 => ?_)
          refine lv_iload_n hx hb dX6_cell_44 rfl (lv_at hl 1 rfl) ?_
          refine h_zald Z hS hc10 dX6_cell_45 h (fun x11 h => ?_)
          refine lv_if_eq (tgt := 51) hx hb dX6_cell_46 (by decide) (fun c12 => ?_) (fun c12 => ?_)
          · have h := if_t h c12
            refine lv_aload_n hx hb dX6_cell_51 rfl (lv_at hl 0 rfl) ?_
            refine h_getC (n := 7) (j := 207) (sh := (1, 90)) Z hS cls_14 hi0 (by decide) rfl rfl rfl fl_X6_22_14 dX6_cell_52 (fun hc13 => ?_)
            refine lv_bipush (v := (10 : Int32)) hx hb dX6_cell_55 (by decide) ?_
            refine lv_iload_n hx hb dX6_cell_57 rfl (lv_at hl 1 rfl) ?_
            refine lv_imul hx hb dX6_cell_58 ?_
            refine lv_aload_n hx hb dX6_cell_59 rfl (lv_at hl 0 rfl) ?_
            refine h_getC (n := 6) (j := 206) (sh := (1, 9)) Z hS cls_14 hi0 (by decide) rfl rfl rfl fl_X6_19_14 dX6_cell_60 (fun hc14 => ?_)
            refine lv_iload_n hx hb dX6_cell_63 rfl (lv_at hl 1 rfl) ?_
            refine h_iald Z hS hc14 dX6_cell_64 h (fun x15 h => ?_)
            refine lv_iadd hx hb dX6_cell_65 ?_
            refine lv_iload_n hx hb dX6_cell_66 rfl (lv_at hl 2 rfl) ?_
            refine h_iast Z hS hc13 dX6_cell_67 h (fun σ16 H locs hS h => ?_)
            refine lv_aload_n hx hb dX6_cell_68 rfl (lv_at hl 0 rfl) ?_
            refine h_getC (n := 8) (j := 208) (sh := (1, 90)) Z hS cls_14 hi0 (by decide) rfl rfl rfl fl_X6_25_14 dX6_cell_69 (fun hc17 => ?_)
            refine lv_bipush (v := (10 : Int32)) hx hb dX6_cell_72 (by decide) ?_
            refine lv_iload_n hx hb dX6_cell_74 rfl (lv_at hl 1 rfl) ?_
            refine lv_imul hx hb dX6_cell_75 ?_
            refine lv_aload_n hx hb dX6_cell_76 rfl (lv_at hl 0 rfl) ?_
            refine h_getC (n := 6) (j := 206) (sh := (1, 9)) Z hS cls_14 hi0 (by decide) rfl rfl rfl fl_X6_19_14 dX6_cell_77 (fun hc18 => ?_)
            refine lv_iload_n hx hb dX6_cell_80 rfl (lv_at hl 1 rfl) ?_
            refine h_iald Z hS hc18 dX6_cell_81 h (fun x19 h => ?_)
            refine lv_iadd hx hb dX6_cell_82 ?_
            refine lv_iload_n hx hb dX6_cell_83 rfl (lv_at hl 2 rfl) ?_
            refine h_iast Z hS hc17 dX6_cell_84 h (fun σ20 H locs hS h => ?_)
            refine lv_aload_n hx hb dX6_cell_85 rfl (lv_at hl 0 rfl) ?_
            refine h_getC (n := 9) (j := 209) (sh := (1, 90)) Z hS cls_14 hi0 (by decide) rfl rfl rfl fl_X6_28_14 dX6_cell_86 (fun hc21 => ?_)
            refine lv_bipush (v := (10 : Int32)) hx hb dX6_cell_89 (by decide) ?_
            refine lv_iload_n hx hb dX6_cell_91 rfl (lv_at hl 1 rfl) ?_
            refine lv_imul hx hb dX6_cell_92 ?_
            refine lv_aload_n hx hb dX6_cell_93 rfl (lv_at hl 0 rfl) ?_
            refine h_getC (n := 6) (j := 206) (sh := (1, 9)) Z hS cls_14 hi0 (by decide) rfl rfl rfl fl_X6_19_14 dX6_cell_94 (fun hc22 => ?_)
            refine lv_iload_n hx hb dX6_cell_97 rfl (lv_at hl 1 rfl) ?_
            refine h_iald Z hS hc22 dX6_cell_98 h (fun x23 h => ?_)
            refine lv_iadd hx hb dX6_cell_99 ?_
            refine lv_iload_n hx hb dX6_cell_100 rfl (lv_at hl 3 rfl) ?_
            refine h_iast Z hS hc21 dX6_cell_101 h (fun σ24 H locs hS h => ?_)
            refine lv_aload_n hx hb dX6_cell_102 rfl (lv_at hl 0 rfl) ?_
            refine h_getC (n := 6) (j := 206) (sh := (1, 9)) Z hS cls_14 hi0 (by decide) rfl rfl rfl fl_X6_19_14 dX6_cell_103 (fun hc25 => ?_)
            refine lv_iload_n hx hb dX6_cell_106 rfl (lv_at hl 1 rfl) ?_
            refine lv_dup2_11 hx hb dX6_cell_107 rfl rfl ?_
            refine h_iald Z hS hc25 dX6_cell_108 h (fun x26 h => ?_)
            refine lv_iconst (v := (1 : Int32)) hx hb dX6_cell_109 (by decide) ?_
            refine lv_iadd hx hb dX6_cell_110 ?_
            refine h_iast Z hS hc25 dX6_cell_111 h (fun σ27 H locs hS h => ?_)
            refine lv_aload_n hx hb dX6_cell_112 rfl (lv_at hl 0 rfl) ?_
            refine h_getC (n := 6) (j := 206) (sh := (1, 9)) Z hS cls_14 hi0 (by decide) rfl rfl rfl fl_X6_19_14 dX6_cell_113 (fun hc28 => ?_)
            refine lv_iload_n hx hb dX6_cell_116 rfl (lv_at hl 1 rfl) ?_
            refine h_iald Z hS hc28 dX6_cell_117 h (fun x29 h => ?_)
            exact h_iretm Z hS dX6_cell_118 h
          · have h := if_f h c12
            refine lv_iconst (v := (-1 : Int32)) hx hb dX6_cell_49 (by decide) ?_
            exact h_iretm Z hS dX6_cell_50 h
end
theorem dX6_set_0 : decode cX6_set 0 = .ok (.aload_n 0, 1) := by decide +kernel
theorem dX6_set_1 : decode cX6_set 1 = .ok (.iload_n 1, 1) := by decide +kernel
theorem dX6_set_2 : decode cX6_set 2 = .ok (.invokevirtual 168, 3) := by decide +kernel
theorem dX6_set_5 : decode cX6_set 5 = .ok (.ifCond .eq 34, 3) := by decide +kernel
theorem dX6_set_8 : decode cX6_set 8 = .ok (.iload_n 2, 1) := by decide +kernel
theorem dX6_set_9 : decode cX6_set 9 = .ok (.iconst 0, 1) := by decide +kernel
theorem dX6_set_10 : decode cX6_set 10 = .ok (.iconst 2, 1) := by decide +kernel
theorem dX6_set_11 : decode cX6_set 11 = .ok (.invokestatic 161, 3) := by decide +kernel
theorem dX6_set_14 : decode cX6_set 14 = .ok (.ifCond .eq 25, 3) := by decide +kernel
theorem dX6_set_17 : decode cX6_set 17 = .ok (.iload_n 3, 1) := by decide +kernel
theorem dX6_set_18 : decode cX6_set 18 = .ok (.iconst 1, 1) := by decide +kernel
theorem dX6_set_19 : decode cX6_set 19 = .ok (.iload_n 2, 1) := by decide +kernel
theorem dX6_set_20 : decode cX6_set 20 = .ok (.iconst 2, 1) := by decide +kernel
theorem dX6_set_21 : decode cX6_set 21 = .ok (.if_icmp .ne 9, 3) := by decide +kernel
theorem dX6_set_24 : decode cX6_set 24 = .ok (.sipush 200, 3) := by decide +kernel
theorem dX6_set_27 : decode cX6_set 27 = .ok (.goto 6, 3) := by decide +kernel
theorem dX6_set_30 : decode cX6_set 30 = .ok (.sipush 1000, 3) := by decide +kernel
theorem dX6_set_33 : decode cX6_set 33 = .ok (.invokestatic 161, 3) := by decide +kernel
theorem dX6_set_36 : decode cX6_set 36 = .ok (.ifCond .ne 5, 3) := by decide +kernel
theorem dX6_set_39 : decode cX6_set 39 = .ok (.iconst 0, 1) := by decide +kernel
theorem dX6_set_40 : decode cX6_set 40 = .ok (.ireturn, 1) := by decide +kernel
theorem dX6_set_41 : decode cX6_set 41 = .ok (.iload_n 2, 1) := by decide +kernel
theorem dX6_set_42 : decode cX6_set 42 = .ok (.ifCond .ne 13, 3) := by decide +kernel
theorem dX6_set_45 : decode cX6_set 45 = .ok (.aload_n 0, 1) := by decide +kernel
theorem dX6_set_46 : decode cX6_set 46 = .ok (.getfield 40, 3) := by decide +kernel
theorem dX6_set_49 : decode cX6_set 49 = .ok (.iload_n 1, 1) := by decide +kernel
theorem dX6_set_50 : decode cX6_set 50 = .ok (.iload_n 3, 1) := by decide +kernel
theorem dX6_set_51 : decode cX6_set 51 = .ok (.iastore, 1) := by decide +kernel
theorem dX6_set_52 : decode cX6_set 52 = .ok (.goto 25, 3) := by decide +kernel
theorem dX6_set_55 : decode cX6_set 55 = .ok (.iload_n 2, 1) := by decide +kernel
theorem dX6_set_56 : decode cX6_set 56 = .ok (.iconst 1, 1) := by decide +kernel
theorem dX6_set_57 : decode cX6_set 57 = .ok (.if_icmp .ne 13, 3) := by decide +kernel
theorem dX6_set_60 : decode cX6_set 60 = .ok (.aload_n 0, 1) := by decide +kernel
theorem dX6_set_61 : decode cX6_set 61 = .ok (.getfield 43, 3) := by decide +kernel
theorem dX6_set_64 : decode cX6_set 64 = .ok (.iload_n 1, 1) := by decide +kernel
theorem dX6_set_65 : decode cX6_set 65 = .ok (.iload_n 3, 1) := by decide +kernel
theorem dX6_set_66 : decode cX6_set 66 = .ok (.iastore, 1) := by decide +kernel
theorem dX6_set_67 : decode cX6_set 67 = .ok (.goto 10, 3) := by decide +kernel
theorem dX6_set_70 : decode cX6_set 70 = .ok (.aload_n 0, 1) := by decide +kernel
theorem dX6_set_71 : decode cX6_set 71 = .ok (.getfield 46, 3) := by decide +kernel
theorem dX6_set_74 : decode cX6_set 74 = .ok (.iload_n 1, 1) := by decide +kernel
theorem dX6_set_75 : decode cX6_set 75 = .ok (.iload_n 3, 1) := by decide +kernel
theorem dX6_set_76 : decode cX6_set 76 = .ok (.iastore, 1) := by decide +kernel
theorem dX6_set_77 : decode cX6_set 77 = .ok (.iconst 1, 1) := by decide +kernel
theorem dX6_set_78 : decode cX6_set 78 = .ok (.ireturn, 1) := by decide +kernel
abbrev rm_X6_set : Room := k2_rm 2 43
section
variable {p : Program} {l : Launch} {e : Env} {s : State} {m : MethodId} {args : Array Value} {below : List Frame} {meth : Method} {c : Code} {D : gD} {A : Nat → Prop} {ad : Nat → Nat} {S : Nat → Nat × Nat} {σ : Mem}
set_option maxRecDepth 100000 in
set_option maxHeartbeats 4000000 in
theorem w_X6_set {a1 : Int32} {a2 : Int32} {a3 : Int32} (hi0 : S 200 = (24, 0)) {r : (Mem × Int32)} (h : f_X6_set σ a1 a2 a3 = some r) : Met l yX6_set (ws_ yX6_set cX6_set 4 (some .boolean)) rm_X6_set (va_Pc [.ref (ad 200), .int a1, .int a2, .int a3] (PreG D (Ew D A) A ad S σ)) (QG D A ad S (some (.int r.2)) r.1) 0 0 A := by
  refine y_met (by decide) (Nat.le_of_ble_eq_true rfl) (fun p e s m below meth c ls Z hS hl => ?_)
  have hx := Z.1
  have hb := Z.2.1
  have hown := Z.2.2.2.2.2.1
  have hts := Z.2.2.2.2.2.2.1
  unfold f_X6_set at h
  refine lv_aload_n hx hb dX6_set_0 rfl (lv_at hl 0 rfl) ?_
  refine lv_iload_n hx hb dX6_set_1 rfl (lv_at hl 1 rfl) ?_
  refine h_ci hS h (fun z hz => h_rV (rest := []) Z hS hi0 rfl v_X6_168 (w_X6_isFilter hi0 hz) rfl rfl ⟨by decide, by decide⟩ rfl hl.1 rfl (Nat.le_of_ble_eq_true rfl) (Nat.zero_le _) (Nat.zero_le _) dX6_set_2) (fun x1 H locs hS h => ?_)
  refine lv_if_eq (tgt := 39) hx hb dX6_set_5 (by decide) (fun c2 => ?_) (fun c2 => ?_)
  · have h := if_t h c2
    refine lv_iconst (v := (0 : Int32)) hx hb dX6_set_39 (by decide) ?_
    exact h_zretm Z hS dX6_set_40 h
  · have h := if_f h c2
    refine lv_iload_n hx hb dX6_set_8 rfl (lv_at hl 2 rfl) ?_
    refine lv_iconst (v := (0 : Int32)) hx hb dX6_set_9 (by decide) ?_
    refine lv_iconst (v := (2 : Int32)) hx hb dX6_set_10 (by decide) ?_
    refine h_ci hS h (fun z hz => h_rS (rest := []) Z hS v_X6_161 (w_X6_in hz) rfl rfl ⟨by decide, by decide⟩ rfl hl.1 rfl (Nat.le_of_ble_eq_true rfl) (Nat.zero_le _) (Nat.zero_le _) dX6_set_11) (fun x3 H locs hS h => ?_)
    refine lv_if_eq (tgt := 39) hx hb dX6_set_14 (by decide) (fun c4 => ?_) (fun c4 => ?_)
    · have h := if_t h c4
      refine lv_iconst (v := (0 : Int32)) hx hb dX6_set_39 (by decide) ?_
      exact h_zretm Z hS dX6_set_40 h
    · have h := if_f h c4
      refine lv_iload_n hx hb dX6_set_17 rfl (lv_at hl 3 rfl) ?_
      refine lv_iconst (v := (1 : Int32)) hx hb dX6_set_18 (by decide) ?_
      refine lv_iload_n hx hb dX6_set_19 rfl (lv_at hl 2 rfl) ?_
      refine lv_iconst (v := (2 : Int32)) hx hb dX6_set_20 (by decide) ?_
      obtain ⟨x6, hp7, h⟩ := bnd_el h
      have K7 : ∀ (H : Heap) (locs : List Loc) (ls : Array Slot), St D A ad S σ s.heap H locs → lv_has ls 4 [(0, .ref (ad 200)), (1, .int a1), (2, .int a2), (3, .int a3)] → W p l e rm_X6_set s m ([.ref (ad 200), .int a1, .int a2, .int a3] : List Value).toArray below meth c H locs 0 0 (MQ below (QG D A ad S (some (.int r.2)) r.1) ([.ref (ad 200), .int a1, .int a2, .int a3] : List Value).toArray s 0 0 A) (F0 m 33 ls [.int x6, .int (1 : Int32), .int a3]) := by
        intro H locs ls hS hl
        refine h_ci hS h (fun z hz => h_rS (rest := []) Z hS v_X6_161 (w_X6_in hz) rfl rfl ⟨by decide, by decide⟩ rfl hl.1 rfl (Nat.le_of_ble_eq_true rfl) (Nat.zero_le _) (Nat.zero_le _) dX6_set_33) (fun x8 H locs hS h => ?_)
        refine lv_if_ne (tgt := 41) hx hb dX6_set_36 (by decide) (fun c9 => ?_) (fun c9 => ?_)
        · have h := if_f h c9
          refine lv_iload_n hx hb dX6_set_41 rfl (lv_at hl 2 rfl) ?_
          refine lv_if_ne (tgt := 55) hx hb dX6_set_42 (by decide) (fun c10 => ?_) (fun c10 => ?_)
          · have h := if_f h c10
            refine lv_iload_n hx hb dX6_set_55 rfl (lv_at hl 2 rfl) ?_
            refine lv_iconst (v := (1 : Int32)) hx hb dX6_set_56 (by decide) ?_
            refine lv_icmp_ne (tgt := 70) hx hb dX6_set_57 (by decide) (fun c13 => ?_) (fun c13 => ?_)
            · have h := if_f h c13
              refine lv_aload_n hx hb dX6_set_70 rfl (lv_at hl 0 rfl) ?_
              refine h_getC (n := 15) (j := 215) (sh := (1, 9)) Z hS cls_14 hi0 (by decide) rfl rfl rfl fl_X6_46_14 dX6_set_71 (fun hc16 => ?_)
              refine lv_iload_n hx hb dX6_set_74 rfl (lv_at hl 1 rfl) ?_
              refine lv_iload_n hx hb dX6_set_75 rfl (lv_at hl 3 rfl) ?_
              refine h_iast Z hS hc16 dX6_set_76 h (fun σ17 H locs hS h => ?_)
              refine lv_iconst (v := (1 : Int32)) hx hb dX6_set_77 (by decide) ?_
              exact h_zretm Z hS dX6_set_78 h
            · have h := if_t h c13
              refine lv_aload_n hx hb dX6_set_60 rfl (lv_at hl 0 rfl) ?_
              refine h_getC (n := 14) (j := 214) (sh := (1, 9)) Z hS cls_14 hi0 (by decide) rfl rfl rfl fl_X6_43_14 dX6_set_61 (fun hc14 => ?_)
              refine lv_iload_n hx hb dX6_set_64 rfl (lv_at hl 1 rfl) ?_
              refine lv_iload_n hx hb dX6_set_65 rfl (lv_at hl 3 rfl) ?_
              refine h_iast Z hS hc14 dX6_set_66 h (fun σ15 H locs hS h => ?_)
              refine lv_goto (tgt := 77) hx hb dX6_set_67 (by decide) ?_
              refine lv_iconst (v := (1 : Int32)) hx hb dX6_set_77 (by decide) ?_
              exact h_zretm Z hS dX6_set_78 h
          · have h := if_t h c10
            refine lv_aload_n hx hb dX6_set_45 rfl (lv_at hl 0 rfl) ?_
            refine h_getC (n := 13) (j := 213) (sh := (1, 9)) Z hS cls_14 hi0 (by decide) rfl rfl rfl fl_X6_40_14 dX6_set_46 (fun hc11 => ?_)
            refine lv_iload_n hx hb dX6_set_49 rfl (lv_at hl 1 rfl) ?_
            refine lv_iload_n hx hb dX6_set_50 rfl (lv_at hl 3 rfl) ?_
            refine h_iast Z hS hc11 dX6_set_51 h (fun σ12 H locs hS h => ?_)
            refine lv_goto (tgt := 77) hx hb dX6_set_52 (by decide) ?_
            refine lv_iconst (v := (1 : Int32)) hx hb dX6_set_77 (by decide) ?_
            exact h_zretm Z hS dX6_set_78 h
        · have h := if_t h c9
          refine lv_iconst (v := (0 : Int32)) hx hb dX6_set_39 (by decide) ?_
          exact h_zretm Z hS dX6_set_40 h
      clear h
      have h := hp7
      clear hp7
      refine lv_icmp_ne (tgt := 30) hx hb dX6_set_21 (by decide) (fun c5 => ?_) (fun c5 => ?_)
      · have h := if_f h c5
        refine lv_sipush (v := (1000 : Int32)) hx hb dX6_set_30 (by decide) ?_
        cases h
        exact K7 _ _ _ hS (lv_sub hl [0, 1, 2, 3] rfl)
      · have h := if_t h c5
        refine lv_sipush (v := (200 : Int32)) hx hb dX6_set_24 (by decide) ?_
        refine lv_goto (tgt := 33) hx hb dX6_set_27 (by decide) ?_
        cases h
        exact K7 _ _ _ hS (lv_sub hl [0, 1, 2, 3] rfl)
end
theorem dX6_heldIn_0 : decode cX6_heldIn 0 = .ok (.iconst 0, 1) := by decide +kernel
theorem dX6_heldIn_1 : decode cX6_heldIn 1 = .ok (.istore_n 3, 1) := by decide +kernel
theorem dX6_heldIn_2 : decode cX6_heldIn 2 = .ok (.iconst 0, 1) := by decide +kernel
theorem dX6_heldIn_3 : decode cX6_heldIn 3 = .ok (.istore 4, 2) := by decide +kernel
theorem dX6_heldIn_5 : decode cX6_heldIn 5 = .ok (.iload 4, 2) := by decide +kernel
theorem dX6_heldIn_7 : decode cX6_heldIn 7 = .ok (.bipush 8, 2) := by decide +kernel
theorem dX6_heldIn_9 : decode cX6_heldIn 9 = .ok (.if_icmp .ge 29, 3) := by decide +kernel
theorem dX6_heldIn_12 : decode cX6_heldIn 12 = .ok (.iload_n 3, 1) := by decide +kernel
theorem dX6_heldIn_13 : decode cX6_heldIn 13 = .ok (.aload_n 0, 1) := by decide +kernel
theorem dX6_heldIn_14 : decode cX6_heldIn 14 = .ok (.getfield 31, 3) := by decide +kernel
theorem dX6_heldIn_17 : decode cX6_heldIn 17 = .ok (.bipush 8, 2) := by decide +kernel
theorem dX6_heldIn_19 : decode cX6_heldIn 19 = .ok (.bipush 10, 2) := by decide +kernel
theorem dX6_heldIn_21 : decode cX6_heldIn 21 = .ok (.iload_n 1, 1) := by decide +kernel
theorem dX6_heldIn_22 : decode cX6_heldIn 22 = .ok (.imul, 1) := by decide +kernel
theorem dX6_heldIn_23 : decode cX6_heldIn 23 = .ok (.iload_n 2, 1) := by decide +kernel
theorem dX6_heldIn_24 : decode cX6_heldIn 24 = .ok (.iadd, 1) := by decide +kernel
theorem dX6_heldIn_25 : decode cX6_heldIn 25 = .ok (.imul, 1) := by decide +kernel
theorem dX6_heldIn_26 : decode cX6_heldIn 26 = .ok (.iload 4, 2) := by decide +kernel
theorem dX6_heldIn_28 : decode cX6_heldIn 28 = .ok (.iadd, 1) := by decide +kernel
theorem dX6_heldIn_29 : decode cX6_heldIn 29 = .ok (.iaload, 1) := by decide +kernel
theorem dX6_heldIn_30 : decode cX6_heldIn 30 = .ok (.iadd, 1) := by decide +kernel
theorem dX6_heldIn_31 : decode cX6_heldIn 31 = .ok (.istore_n 3, 1) := by decide +kernel
theorem dX6_heldIn_32 : decode cX6_heldIn 32 = .ok (.iinc 4 1, 3) := by decide +kernel
theorem dX6_heldIn_35 : decode cX6_heldIn 35 = .ok (.goto (-30), 3) := by decide +kernel
theorem dX6_heldIn_38 : decode cX6_heldIn 38 = .ok (.iload_n 3, 1) := by decide +kernel
theorem dX6_heldIn_39 : decode cX6_heldIn 39 = .ok (.ireturn, 1) := by decide +kernel
abbrev rm_X6_heldIn : Room := k2_rm 0 0
section
variable {p : Program} {l : Launch} {e : Env} {s : State} {m : MethodId} {args : Array Value} {below : List Frame} {meth : Method} {c : Code} {D : gD} {A : Nat → Prop} {ad : Nat → Nat} {S : Nat → Nat × Nat} {σ : Mem}
set_option maxRecDepth 100000 in
set_option maxHeartbeats 4000000 in
theorem w_X6_heldIn_L5 (Z : Cz D (Ew D A) A cX6_heldIn 5 (some .int) RX6 p s m args meth c) {u1 : Int32} {u2 : Int32} (hu0 : S 200 = (24, 0)) {r : Int32} {k38 : Int32 → Option Int32}
    (hk38 : ∀ (w3 : Int32) (H : Heap) (locs : List Loc) (ls : Array Slot), St D A ad S σ s.heap H locs → lv_has ls 5 [(3, .int w3)] → k38 w3 = some r → W p l e rm_X6_heldIn s m args below meth c H locs 0 0 (MQ below (QG D A ad S (some (.int r)) σ) args s 0 0 A) (F0 m 38 ls [])) :
    ∀ (n : Nat) (v3 : Int32) (v4 : Int32) (H : Heap) (locs : List Loc) (ls : Array Slot), St D A ad S σ s.heap H locs → lv_has ls 5 [(0, .ref (ad 200)), (1, .int u1), (2, .int u2), (3, .int v3), (4, .int v4)] → f_X6_heldIn_L5 k38 σ u1 u2 n v3 v4 = some r → W p l e rm_X6_heldIn s m args below meth c H locs 0 0 (MQ below (QG D A ad S (some (.int r)) σ) args s 0 0 A) (F0 m 5 ls []) := by
  have hx := Z.1
  have hb := Z.2.1
  have hown := Z.2.2.2.2.2.1
  have hts := Z.2.2.2.2.2.2.1
  intro n
  induction n with
  | zero => intro v3 v4 H locs ls hS hl h; cases h
  | succ n ih =>
    intro v3 v4 H locs ls hS hl h
    unfold f_X6_heldIn_L5 at h
    refine lv_iload hx hb dX6_heldIn_5 (lv_at hl 4 rfl) ?_
    refine lv_bipush (v := (8 : Int32)) hx hb dX6_heldIn_7 (by decide) ?_
    refine lv_icmp_ge (tgt := 38) hx hb dX6_heldIn_9 (by decide) (fun c1 => ?_) (fun c1 => ?_)
    · have h := if_t h c1
      exact hk38 _ _ _ _ hS (lv_sub hl [3] rfl) h
    · have h := if_f h c1
      refine lv_iload_n hx hb dX6_heldIn_12 rfl (lv_at hl 3 rfl) ?_
      refine lv_aload_n hx hb dX6_heldIn_13 rfl (lv_at hl 0 rfl) ?_
      refine h_getC (n := 10) (j := 210) (sh := (1, 720)) Z hS cls_14 hu0 (by decide) rfl rfl rfl fl_X6_31_14 dX6_heldIn_14 (fun hc2 => ?_)
      refine lv_bipush (v := (8 : Int32)) hx hb dX6_heldIn_17 (by decide) ?_
      refine lv_bipush (v := (10 : Int32)) hx hb dX6_heldIn_19 (by decide) ?_
      refine lv_iload_n hx hb dX6_heldIn_21 rfl (lv_at hl 1 rfl) ?_
      refine lv_imul hx hb dX6_heldIn_22 ?_
      refine lv_iload_n hx hb dX6_heldIn_23 rfl (lv_at hl 2 rfl) ?_
      refine lv_iadd hx hb dX6_heldIn_24 ?_
      refine lv_imul hx hb dX6_heldIn_25 ?_
      refine lv_iload hx hb dX6_heldIn_26 (lv_at hl 4 rfl) ?_
      refine lv_iadd hx hb dX6_heldIn_28 ?_
      refine h_iald Z hS hc2 dX6_heldIn_29 h (fun x3 h => ?_)
      refine lv_iadd hx hb dX6_heldIn_30 ?_
      refine h_leti h (fun x4 h => ?_)
      refine lv_istore_n (lv' := [(3, .int x4), (0, .ref (ad 200)), (1, .int u1), (2, .int u2), (4, .int v4)]) hx hb dX6_heldIn_31 rfl hl (by decide) rfl (fun ls hl => ?_)
      refine lv_iinc (v := (v4 + (1 : Int32))) (lv' := [(4, .int (v4 + (1 : Int32))), (3, .int x4), (0, .ref (ad 200)), (1, .int u1), (2, .int u2)]) hx hb dX6_heldIn_32 hl (k := 4) rfl rfl (by decide) rfl (fun ls hl => ?_)
      refine lv_goto (tgt := 5) hx hb dX6_heldIn_35 (by decide) ?_
      exact ih _ _ _ _ _ hS (lv_sub hl [2, 3, 4, 1, 0] rfl) h
set_option maxRecDepth 100000 in
set_option maxHeartbeats 4000000 in
theorem w_X6_heldIn {a1 : Int32} {a2 : Int32} (hi0 : S 200 = (24, 0)) {r : Int32} (h : f_X6_heldIn σ a1 a2 = some r) : Met l yX6_heldIn (ws_ yX6_heldIn cX6_heldIn 5 (some .int)) rm_X6_heldIn (va_Pc [.ref (ad 200), .int a1, .int a2] (PreG D (Ew D A) A ad S σ)) (QG D A ad S (some (.int r)) σ) 0 0 A := by
  refine y_met (by decide) (Nat.le_of_ble_eq_true rfl) (fun p e s m below meth c ls Z hS hl => ?_)
  have hx := Z.1
  have hb := Z.2.1
  have hown := Z.2.2.2.2.2.1
  have hts := Z.2.2.2.2.2.2.1
  unfold f_X6_heldIn at h
  refine lv_iconst (v := (0 : Int32)) hx hb dX6_heldIn_0 (by decide) ?_
  refine lv_istore_n (lv' := [(3, .int (0 : Int32)), (0, .ref (ad 200)), (1, .int a1), (2, .int a2)]) hx hb dX6_heldIn_1 rfl hl (by decide) rfl (fun ls hl => ?_)
  refine lv_iconst (v := (0 : Int32)) hx hb dX6_heldIn_2 (by decide) ?_
  refine lv_istore (lv' := [(4, .int (0 : Int32)), (3, .int (0 : Int32)), (0, .ref (ad 200)), (1, .int a1), (2, .int a2)]) hx hb dX6_heldIn_3 hl (by decide) rfl (fun ls hl => ?_)
  refine w_X6_heldIn_L5 Z hi0 (fun x5 H locs ls hS hl h => ?_) FU _ _ _ _ _ hS (lv_sub hl [2, 3, 4, 1, 0] rfl) h
  refine lv_iload_n hx hb dX6_heldIn_38 rfl (lv_at hl 0 rfl) ?_
  exact h_iret Z hS dX6_heldIn_39 h
end
theorem dX6_widthOf_0 : decode cX6_widthOf 0 = .ok (.iconst 0, 1) := by decide +kernel
theorem dX6_widthOf_1 : decode cX6_widthOf 1 = .ok (.iload_n 0, 1) := by decide +kernel
theorem dX6_widthOf_2 : decode cX6_widthOf 2 = .ok (.iload_n 2, 1) := by decide +kernel
theorem dX6_widthOf_3 : decode cX6_widthOf 3 = .ok (.iload_n 1, 1) := by decide +kernel
theorem dX6_widthOf_4 : decode cX6_widthOf 4 = .ok (.idiv, 1) := by decide +kernel
theorem dX6_widthOf_5 : decode cX6_widthOf 5 = .ok (.isub, 1) := by decide +kernel
theorem dX6_widthOf_6 : decode cX6_widthOf 6 = .ok (.invokestatic 172, 3) := by decide +kernel
theorem dX6_widthOf_9 : decode cX6_widthOf 9 = .ok (.ireturn, 1) := by decide +kernel
abbrev rm_X6_widthOf : Room := k2_rm 1 13
section
variable {p : Program} {l : Launch} {e : Env} {s : State} {m : MethodId} {args : Array Value} {below : List Frame} {meth : Method} {c : Code} {D : gD} {A : Nat → Prop} {ad : Nat → Nat} {S : Nat → Nat × Nat} {σ : Mem}
set_option maxRecDepth 100000 in
set_option maxHeartbeats 4000000 in
theorem w_X6_widthOf {a1 : Int32} {a2 : Int32} {a3 : Int32} {r : Int32} (h : f_X6_widthOf σ a1 a2 a3 = some r) : Met l yX6_widthOf (ws_ yX6_widthOf cX6_widthOf 3 (some .int)) rm_X6_widthOf (va_Pc [.int a1, .int a2, .int a3] (PreG D (Ew D A) A ad S σ)) (QG D A ad S (some (.int r)) σ) 0 0 A := by
  refine y_met (by decide) (Nat.le_of_ble_eq_true rfl) (fun p e s m below meth c ls Z hS hl => ?_)
  have hx := Z.1
  have hb := Z.2.1
  have hown := Z.2.2.2.2.2.1
  have hts := Z.2.2.2.2.2.2.1
  unfold f_X6_widthOf at h
  refine lv_iconst (v := (0 : Int32)) hx hb dX6_widthOf_0 (by decide) ?_
  refine lv_iload_n hx hb dX6_widthOf_1 rfl (lv_at hl 0 rfl) ?_
  refine lv_iload_n hx hb dX6_widthOf_2 rfl (lv_at hl 2 rfl) ?_
  refine lv_iload_n hx hb dX6_widthOf_3 rfl (lv_at hl 1 rfl) ?_
  refine h_idiv Z dX6_widthOf_4 h (fun h => ?_)
  refine lv_isub hx hb dX6_widthOf_5 ?_
  refine y_imax hx hb (hl.1 ▸ Z.2.2.2.2.1) Z.2.2.2.2.2 q1428 (by decide) (Nat.le_of_ble_eq_true rfl) (Nat.zero_le _) (Nat.zero_le _) dX6_widthOf_6 ?_
  exact h_iret Z hS dX6_widthOf_9 h
end
theorem dX6_width_0 : decode cX6_width 0 = .ok (.aload_n 0, 1) := by decide +kernel
theorem dX6_width_1 : decode cX6_width 1 = .ok (.getfield 22, 3) := by decide +kernel
theorem dX6_width_4 : decode cX6_width 4 = .ok (.bipush 10, 2) := by decide +kernel
theorem dX6_width_6 : decode cX6_width 6 = .ok (.iload_n 1, 1) := by decide +kernel
theorem dX6_width_7 : decode cX6_width 7 = .ok (.imul, 1) := by decide +kernel
theorem dX6_width_8 : decode cX6_width 8 = .ok (.iload_n 2, 1) := by decide +kernel
theorem dX6_width_9 : decode cX6_width 9 = .ok (.iadd, 1) := by decide +kernel
theorem dX6_width_10 : decode cX6_width 10 = .ok (.iaload, 1) := by decide +kernel
theorem dX6_width_11 : decode cX6_width 11 = .ok (.aload_n 0, 1) := by decide +kernel
theorem dX6_width_12 : decode cX6_width 12 = .ok (.getfield 28, 3) := by decide +kernel
theorem dX6_width_15 : decode cX6_width 15 = .ok (.bipush 10, 2) := by decide +kernel
theorem dX6_width_17 : decode cX6_width 17 = .ok (.iload_n 1, 1) := by decide +kernel
theorem dX6_width_18 : decode cX6_width 18 = .ok (.imul, 1) := by decide +kernel
theorem dX6_width_19 : decode cX6_width 19 = .ok (.iload_n 2, 1) := by decide +kernel
theorem dX6_width_20 : decode cX6_width 20 = .ok (.iadd, 1) := by decide +kernel
theorem dX6_width_21 : decode cX6_width 21 = .ok (.iaload, 1) := by decide +kernel
theorem dX6_width_22 : decode cX6_width 22 = .ok (.aload_n 0, 1) := by decide +kernel
theorem dX6_width_23 : decode cX6_width 23 = .ok (.iload_n 1, 1) := by decide +kernel
theorem dX6_width_24 : decode cX6_width 24 = .ok (.iload_n 2, 1) := by decide +kernel
theorem dX6_width_25 : decode cX6_width 25 = .ok (.invokevirtual 178, 3) := by decide +kernel
theorem dX6_width_28 : decode cX6_width 28 = .ok (.invokestatic 181, 3) := by decide +kernel
theorem dX6_width_31 : decode cX6_width 31 = .ok (.ireturn, 1) := by decide +kernel
abbrev rm_X6_width : Room := k2_rm 2 35
section
variable {p : Program} {l : Launch} {e : Env} {s : State} {m : MethodId} {args : Array Value} {below : List Frame} {meth : Method} {c : Code} {D : gD} {A : Nat → Prop} {ad : Nat → Nat} {S : Nat → Nat × Nat} {σ : Mem}
set_option maxRecDepth 100000 in
set_option maxHeartbeats 4000000 in
theorem w_X6_width {a1 : Int32} {a2 : Int32} (hi0 : S 200 = (24, 0)) {r : Int32} (h : f_X6_width σ a1 a2 = some r) : Met l yX6_width (ws_ yX6_width cX6_width 3 (some .int)) rm_X6_width (va_Pc [.ref (ad 200), .int a1, .int a2] (PreG D (Ew D A) A ad S σ)) (QG D A ad S (some (.int r)) σ) 0 0 A := by
  refine y_met (by decide) (Nat.le_of_ble_eq_true rfl) (fun p e s m below meth c ls Z hS hl => ?_)
  have hx := Z.1
  have hb := Z.2.1
  have hown := Z.2.2.2.2.2.1
  have hts := Z.2.2.2.2.2.2.1
  unfold f_X6_width at h
  refine lv_aload_n hx hb dX6_width_0 rfl (lv_at hl 0 rfl) ?_
  refine h_getC (n := 7) (j := 207) (sh := (1, 90)) Z hS cls_14 hi0 (by decide) rfl rfl rfl fl_X6_22_14 dX6_width_1 (fun hc1 => ?_)
  refine lv_bipush (v := (10 : Int32)) hx hb dX6_width_4 (by decide) ?_
  refine lv_iload_n hx hb dX6_width_6 rfl (lv_at hl 1 rfl) ?_
  refine lv_imul hx hb dX6_width_7 ?_
  refine lv_iload_n hx hb dX6_width_8 rfl (lv_at hl 2 rfl) ?_
  refine lv_iadd hx hb dX6_width_9 ?_
  refine h_iald Z hS hc1 dX6_width_10 h (fun x2 h => ?_)
  refine lv_aload_n hx hb dX6_width_11 rfl (lv_at hl 0 rfl) ?_
  refine h_getC (n := 9) (j := 209) (sh := (1, 90)) Z hS cls_14 hi0 (by decide) rfl rfl rfl fl_X6_28_14 dX6_width_12 (fun hc3 => ?_)
  refine lv_bipush (v := (10 : Int32)) hx hb dX6_width_15 (by decide) ?_
  refine lv_iload_n hx hb dX6_width_17 rfl (lv_at hl 1 rfl) ?_
  refine lv_imul hx hb dX6_width_18 ?_
  refine lv_iload_n hx hb dX6_width_19 rfl (lv_at hl 2 rfl) ?_
  refine lv_iadd hx hb dX6_width_20 ?_
  refine h_iald Z hS hc3 dX6_width_21 h (fun x4 h => ?_)
  refine lv_aload_n hx hb dX6_width_22 rfl (lv_at hl 0 rfl) ?_
  refine lv_iload_n hx hb dX6_width_23 rfl (lv_at hl 1 rfl) ?_
  refine lv_iload_n hx hb dX6_width_24 rfl (lv_at hl 2 rfl) ?_
  refine h_ci hS h (fun z hz => h_rV (rest := [.int x4, .int x2]) Z hS hi0 rfl v_X6_178 (w_X6_heldIn hi0 hz) rfl rfl ⟨by decide, by decide⟩ rfl hl.1 rfl (Nat.le_of_ble_eq_true rfl) (Nat.zero_le _) (Nat.zero_le _) dX6_width_25) (fun x5 H locs hS h => ?_)
  refine h_ci hS h (fun z hz => h_rS (rest := []) Z hS v_X6_181 (w_X6_widthOf hz) rfl rfl ⟨by decide, by decide⟩ rfl hl.1 rfl (Nat.le_of_ble_eq_true rfl) (Nat.zero_le _) (Nat.zero_le _) dX6_width_28) (fun x6 H locs hS h => ?_)
  exact h_iret Z hS dX6_width_31 h
end
theorem dX6_resistOf_0 : decode cX6_resistOf 0 = .ok (.iload_n 0, 1) := by decide +kernel
theorem dX6_resistOf_1 : decode cX6_resistOf 1 = .ok (.ifCond .ne 7, 3) := by decide +kernel
theorem dX6_resistOf_4 : decode cX6_resistOf 4 = .ok (.iconst (-1), 1) := by decide +kernel
theorem dX6_resistOf_5 : decode cX6_resistOf 5 = .ok (.goto 14, 3) := by decide +kernel
theorem dX6_resistOf_8 : decode cX6_resistOf 8 = .ok (.iconst 1, 1) := by decide +kernel
theorem dX6_resistOf_9 : decode cX6_resistOf 9 = .ok (.sipush 10000, 3) := by decide +kernel
theorem dX6_resistOf_12 : decode cX6_resistOf 12 = .ok (.iload_n 0, 1) := by decide +kernel
theorem dX6_resistOf_13 : decode cX6_resistOf 13 = .ok (.idiv, 1) := by decide +kernel
theorem dX6_resistOf_14 : decode cX6_resistOf 14 = .ok (.iload_n 0, 1) := by decide +kernel
theorem dX6_resistOf_15 : decode cX6_resistOf 15 = .ok (.idiv, 1) := by decide +kernel
theorem dX6_resistOf_16 : decode cX6_resistOf 16 = .ok (.invokestatic 172, 3) := by decide +kernel
theorem dX6_resistOf_19 : decode cX6_resistOf 19 = .ok (.ireturn, 1) := by decide +kernel
abbrev rm_X6_resistOf : Room := k2_rm 1 13
section
variable {p : Program} {l : Launch} {e : Env} {s : State} {m : MethodId} {args : Array Value} {below : List Frame} {meth : Method} {c : Code} {D : gD} {A : Nat → Prop} {ad : Nat → Nat} {S : Nat → Nat × Nat} {σ : Mem}
set_option maxRecDepth 100000 in
set_option maxHeartbeats 4000000 in
theorem w_X6_resistOf {a1 : Int32} {r : Int32} (h : f_X6_resistOf σ a1 = some r) : Met l yX6_resistOf (ws_ yX6_resistOf cX6_resistOf 1 (some .int)) rm_X6_resistOf (va_Pc [.int a1] (PreG D (Ew D A) A ad S σ)) (QG D A ad S (some (.int r)) σ) 0 0 A := by
  refine y_met (by decide) (Nat.le_of_ble_eq_true rfl) (fun p e s m below meth c ls Z hS hl => ?_)
  have hx := Z.1
  have hb := Z.2.1
  have hown := Z.2.2.2.2.2.1
  have hts := Z.2.2.2.2.2.2.1
  unfold f_X6_resistOf at h
  refine lv_iload_n hx hb dX6_resistOf_0 rfl (lv_at hl 0 rfl) ?_
  refine lv_if_ne (tgt := 8) hx hb dX6_resistOf_1 (by decide) (fun c1 => ?_) (fun c1 => ?_)
  · have h := if_f h c1
    refine lv_iconst (v := (1 : Int32)) hx hb dX6_resistOf_8 (by decide) ?_
    refine lv_sipush (v := (10000 : Int32)) hx hb dX6_resistOf_9 (by decide) ?_
    refine lv_iload_n hx hb dX6_resistOf_12 rfl (lv_at hl 0 rfl) ?_
    refine h_idiv Z dX6_resistOf_13 h (fun h => ?_)
    refine lv_iload_n hx hb dX6_resistOf_14 rfl (lv_at hl 0 rfl) ?_
    refine h_idiv Z dX6_resistOf_15 h (fun h => ?_)
    refine y_imax hx hb (hl.1 ▸ Z.2.2.2.2.1) Z.2.2.2.2.2 q1428 (by decide) (Nat.le_of_ble_eq_true rfl) (Nat.zero_le _) (Nat.zero_le _) dX6_resistOf_16 ?_
    exact h_iret Z hS dX6_resistOf_19 h
  · have h := if_t h c1
    refine lv_iconst (v := (-1 : Int32)) hx hb dX6_resistOf_4 (by decide) ?_
    refine lv_goto (tgt := 19) hx hb dX6_resistOf_5 (by decide) ?_
    exact h_iret Z hS dX6_resistOf_19 h
end
theorem dX6_bed_0 : decode cX6_bed 0 = .ok (.iconst 0, 1) := by decide +kernel
theorem dX6_bed_1 : decode cX6_bed 1 = .ok (.istore_n 2, 1) := by decide +kernel
theorem dX6_bed_2 : decode cX6_bed 2 = .ok (.iconst 0, 1) := by decide +kernel
theorem dX6_bed_3 : decode cX6_bed 3 = .ok (.istore_n 3, 1) := by decide +kernel
theorem dX6_bed_4 : decode cX6_bed 4 = .ok (.iload_n 3, 1) := by decide +kernel
theorem dX6_bed_5 : decode cX6_bed 5 = .ok (.aload_n 0, 1) := by decide +kernel
theorem dX6_bed_6 : decode cX6_bed 6 = .ok (.getfield 19, 3) := by decide +kernel
theorem dX6_bed_9 : decode cX6_bed 9 = .ok (.iload_n 1, 1) := by decide +kernel
theorem dX6_bed_10 : decode cX6_bed 10 = .ok (.iaload, 1) := by decide +kernel
theorem dX6_bed_11 : decode cX6_bed 11 = .ok (.if_icmp .ge 33, 3) := by decide +kernel
theorem dX6_bed_14 : decode cX6_bed 14 = .ok (.aload_n 0, 1) := by decide +kernel
theorem dX6_bed_15 : decode cX6_bed 15 = .ok (.iload_n 1, 1) := by decide +kernel
theorem dX6_bed_16 : decode cX6_bed 16 = .ok (.iload_n 3, 1) := by decide +kernel
theorem dX6_bed_17 : decode cX6_bed 17 = .ok (.invokevirtual 185, 3) := by decide +kernel
theorem dX6_bed_20 : decode cX6_bed 20 = .ok (.invokestatic 188, 3) := by decide +kernel
theorem dX6_bed_23 : decode cX6_bed 23 = .ok (.istore 4, 2) := by decide +kernel
theorem dX6_bed_25 : decode cX6_bed 25 = .ok (.iload 4, 2) := by decide +kernel
theorem dX6_bed_27 : decode cX6_bed 27 = .ok (.iconst (-1), 1) := by decide +kernel
theorem dX6_bed_28 : decode cX6_bed 28 = .ok (.if_icmp .ne 5, 3) := by decide +kernel
theorem dX6_bed_31 : decode cX6_bed 31 = .ok (.iconst (-1), 1) := by decide +kernel
theorem dX6_bed_32 : decode cX6_bed 32 = .ok (.ireturn, 1) := by decide +kernel
theorem dX6_bed_33 : decode cX6_bed 33 = .ok (.iload_n 2, 1) := by decide +kernel
theorem dX6_bed_34 : decode cX6_bed 34 = .ok (.iload 4, 2) := by decide +kernel
theorem dX6_bed_36 : decode cX6_bed 36 = .ok (.iadd, 1) := by decide +kernel
theorem dX6_bed_37 : decode cX6_bed 37 = .ok (.istore_n 2, 1) := by decide +kernel
theorem dX6_bed_38 : decode cX6_bed 38 = .ok (.iinc 3 1, 3) := by decide +kernel
theorem dX6_bed_41 : decode cX6_bed 41 = .ok (.goto (-37), 3) := by decide +kernel
theorem dX6_bed_44 : decode cX6_bed 44 = .ok (.iload_n 2, 1) := by decide +kernel
theorem dX6_bed_45 : decode cX6_bed 45 = .ok (.ireturn, 1) := by decide +kernel
abbrev rm_X6_bed : Room := k2_rm 3 57
section
variable {p : Program} {l : Launch} {e : Env} {s : State} {m : MethodId} {args : Array Value} {below : List Frame} {meth : Method} {c : Code} {D : gD} {A : Nat → Prop} {ad : Nat → Nat} {S : Nat → Nat × Nat} {σ : Mem}
set_option maxRecDepth 100000 in
set_option maxHeartbeats 4000000 in
theorem w_X6_bed_L4 (Z : Cz D (Ew D A) A cX6_bed 5 (some .int) RX6 p s m args meth c) {u1 : Int32} (hu0 : S 200 = (24, 0)) {r : Int32} {k31 : Option Int32} {k44 : Int32 → Option Int32}
    (hk31 : ∀  (H : Heap) (locs : List Loc) (ls : Array Slot), St D A ad S σ s.heap H locs → lv_has ls 5 [] → k31 = some r → W p l e rm_X6_bed s m args below meth c H locs 0 0 (MQ below (QG D A ad S (some (.int r)) σ) args s 0 0 A) (F0 m 31 ls []))
    (hk44 : ∀ (w2 : Int32) (H : Heap) (locs : List Loc) (ls : Array Slot), St D A ad S σ s.heap H locs → lv_has ls 5 [(2, .int w2)] → k44 w2 = some r → W p l e rm_X6_bed s m args below meth c H locs 0 0 (MQ below (QG D A ad S (some (.int r)) σ) args s 0 0 A) (F0 m 44 ls [])) :
    ∀ (n : Nat) (v2 : Int32) (v3 : Int32) (H : Heap) (locs : List Loc) (ls : Array Slot), St D A ad S σ s.heap H locs → lv_has ls 5 [(0, .ref (ad 200)), (1, .int u1), (2, .int v2), (3, .int v3)] → f_X6_bed_L4 k31 k44 σ u1 n v2 v3 = some r → W p l e rm_X6_bed s m args below meth c H locs 0 0 (MQ below (QG D A ad S (some (.int r)) σ) args s 0 0 A) (F0 m 4 ls []) := by
  have hx := Z.1
  have hb := Z.2.1
  have hown := Z.2.2.2.2.2.1
  have hts := Z.2.2.2.2.2.2.1
  intro n
  induction n with
  | zero => intro v2 v3 H locs ls hS hl h; cases h
  | succ n ih =>
    intro v2 v3 H locs ls hS hl h
    unfold f_X6_bed_L4 at h
    refine lv_iload_n hx hb dX6_bed_4 rfl (lv_at hl 3 rfl) ?_
    refine lv_aload_n hx hb dX6_bed_5 rfl (lv_at hl 0 rfl) ?_
    refine h_getC (n := 6) (j := 206) (sh := (1, 9)) Z hS cls_14 hu0 (by decide) rfl rfl rfl fl_X6_19_14 dX6_bed_6 (fun hc1 => ?_)
    refine lv_iload_n hx hb dX6_bed_9 rfl (lv_at hl 1 rfl) ?_
    refine h_iald Z hS hc1 dX6_bed_10 h (fun x2 h => ?_)
    refine lv_icmp_ge (tgt := 44) hx hb dX6_bed_11 (by decide) (fun c3 => ?_) (fun c3 => ?_)
    · have h := if_t h c3
      exact hk44 _ _ _ _ hS (lv_sub hl [2] rfl) h
    · have h := if_f h c3
      refine lv_aload_n hx hb dX6_bed_14 rfl (lv_at hl 0 rfl) ?_
      refine lv_iload_n hx hb dX6_bed_15 rfl (lv_at hl 1 rfl) ?_
      refine lv_iload_n hx hb dX6_bed_16 rfl (lv_at hl 3 rfl) ?_
      refine h_ci hS h (fun z hz => h_rV (rest := []) Z hS hu0 rfl v_X6_185 (w_X6_width hu0 hz) rfl rfl ⟨by decide, by decide⟩ rfl hl.1 rfl (Nat.le_of_ble_eq_true rfl) (Nat.zero_le _) (Nat.zero_le _) dX6_bed_17) (fun x4 H locs hS h => ?_)
      refine h_ci hS h (fun z hz => h_rS (rest := []) Z hS v_X6_188 (w_X6_resistOf hz) rfl rfl ⟨by decide, by decide⟩ rfl hl.1 rfl (Nat.le_of_ble_eq_true rfl) (Nat.zero_le _) (Nat.zero_le _) dX6_bed_20) (fun x5 H locs hS h => ?_)
      refine lv_istore (lv' := [(4, .int x5), (0, .ref (ad 200)), (1, .int u1), (2, .int v2), (3, .int v3)]) hx hb dX6_bed_23 hl (by decide) rfl (fun ls hl => ?_)
      refine lv_iload hx hb dX6_bed_25 (lv_at hl 0 rfl) ?_
      refine lv_iconst (v := (-1 : Int32)) hx hb dX6_bed_27 (by decide) ?_
      refine lv_icmp_ne (tgt := 33) hx hb dX6_bed_28 (by decide) (fun c6 => ?_) (fun c6 => ?_)
      · have h := if_f h c6
        refine lv_iload_n hx hb dX6_bed_33 rfl (lv_at hl 3 rfl) ?_
        refine lv_iload hx hb dX6_bed_34 (lv_at hl 0 rfl) ?_
        refine lv_iadd hx hb dX6_bed_36 ?_
        refine h_leti h (fun x7 h => ?_)
        refine lv_istore_n (lv' := [(2, .int x7), (4, .int x5), (0, .ref (ad 200)), (1, .int u1), (3, .int v3)]) hx hb dX6_bed_37 rfl hl (by decide) rfl (fun ls hl => ?_)
        refine lv_iinc (v := (v3 + (1 : Int32))) (lv' := [(3, .int (v3 + (1 : Int32))), (2, .int x7), (4, .int x5), (0, .ref (ad 200)), (1, .int u1)]) hx hb dX6_bed_38 hl (k := 4) rfl rfl (by decide) rfl (fun ls hl => ?_)
        refine lv_goto (tgt := 4) hx hb dX6_bed_41 (by decide) ?_
        exact ih _ _ _ _ _ hS (lv_sub hl [3, 4, 1, 0] rfl) h
      · have h := if_t h c6
        exact hk31  _ _ _ hS (lv_sub hl [] rfl) h
set_option maxRecDepth 100000 in
set_option maxHeartbeats 4000000 in
theorem w_X6_bed {a1 : Int32} (hi0 : S 200 = (24, 0)) {r : Int32} (h : f_X6_bed σ a1 = some r) : Met l yX6_bed (ws_ yX6_bed cX6_bed 5 (some .int)) rm_X6_bed (va_Pc [.ref (ad 200), .int a1] (PreG D (Ew D A) A ad S σ)) (QG D A ad S (some (.int r)) σ) 0 0 A := by
  refine y_met (by decide) (Nat.le_of_ble_eq_true rfl) (fun p e s m below meth c ls Z hS hl => ?_)
  have hx := Z.1
  have hb := Z.2.1
  have hown := Z.2.2.2.2.2.1
  have hts := Z.2.2.2.2.2.2.1
  unfold f_X6_bed at h
  refine lv_iconst (v := (0 : Int32)) hx hb dX6_bed_0 (by decide) ?_
  refine lv_istore_n (lv' := [(2, .int (0 : Int32)), (0, .ref (ad 200)), (1, .int a1)]) hx hb dX6_bed_1 rfl hl (by decide) rfl (fun ls hl => ?_)
  refine lv_iconst (v := (0 : Int32)) hx hb dX6_bed_2 (by decide) ?_
  refine lv_istore_n (lv' := [(3, .int (0 : Int32)), (2, .int (0 : Int32)), (0, .ref (ad 200)), (1, .int a1)]) hx hb dX6_bed_3 rfl hl (by decide) rfl (fun ls hl => ?_)
  refine w_X6_bed_L4 Z hi0 (fun  H locs ls hS hl h => ?_) (fun x8 H locs ls hS hl h => ?_) FU _ _ _ _ _ hS (lv_sub hl [2, 3, 1, 0] rfl) h
  · refine lv_iconst (v := (-1 : Int32)) hx hb dX6_bed_31 (by decide) ?_
    exact h_iret Z hS dX6_bed_32 h
  · refine lv_iload_n hx hb dX6_bed_44 rfl (lv_at hl 0 rfl) ?_
    exact h_iret Z hS dX6_bed_45 h
end
theorem dX6_cakeOf_0 : decode cX6_cakeOf 0 = .ok (.iconst 0, 1) := by decide +kernel
theorem dX6_cakeOf_1 : decode cX6_cakeOf 1 = .ok (.istore_n 2, 1) := by decide +kernel
theorem dX6_cakeOf_2 : decode cX6_cakeOf 2 = .ok (.iconst 0, 1) := by decide +kernel
theorem dX6_cakeOf_3 : decode cX6_cakeOf 3 = .ok (.istore_n 3, 1) := by decide +kernel
theorem dX6_cakeOf_4 : decode cX6_cakeOf 4 = .ok (.iload_n 3, 1) := by decide +kernel
theorem dX6_cakeOf_5 : decode cX6_cakeOf 5 = .ok (.bipush 8, 2) := by decide +kernel
theorem dX6_cakeOf_7 : decode cX6_cakeOf 7 = .ok (.if_icmp .ge 23, 3) := by decide +kernel
theorem dX6_cakeOf_10 : decode cX6_cakeOf 10 = .ok (.iload_n 2, 1) := by decide +kernel
theorem dX6_cakeOf_11 : decode cX6_cakeOf 11 = .ok (.aload_n 0, 1) := by decide +kernel
theorem dX6_cakeOf_12 : decode cX6_cakeOf 12 = .ok (.getfield 37, 3) := by decide +kernel
theorem dX6_cakeOf_15 : decode cX6_cakeOf 15 = .ok (.bipush 8, 2) := by decide +kernel
theorem dX6_cakeOf_17 : decode cX6_cakeOf 17 = .ok (.iload_n 1, 1) := by decide +kernel
theorem dX6_cakeOf_18 : decode cX6_cakeOf 18 = .ok (.imul, 1) := by decide +kernel
theorem dX6_cakeOf_19 : decode cX6_cakeOf 19 = .ok (.iload_n 3, 1) := by decide +kernel
theorem dX6_cakeOf_20 : decode cX6_cakeOf 20 = .ok (.iadd, 1) := by decide +kernel
theorem dX6_cakeOf_21 : decode cX6_cakeOf 21 = .ok (.iaload, 1) := by decide +kernel
theorem dX6_cakeOf_22 : decode cX6_cakeOf 22 = .ok (.iadd, 1) := by decide +kernel
theorem dX6_cakeOf_23 : decode cX6_cakeOf 23 = .ok (.istore_n 2, 1) := by decide +kernel
theorem dX6_cakeOf_24 : decode cX6_cakeOf 24 = .ok (.iinc 3 1, 3) := by decide +kernel
theorem dX6_cakeOf_27 : decode cX6_cakeOf 27 = .ok (.goto (-23), 3) := by decide +kernel
theorem dX6_cakeOf_30 : decode cX6_cakeOf 30 = .ok (.iload_n 2, 1) := by decide +kernel
theorem dX6_cakeOf_31 : decode cX6_cakeOf 31 = .ok (.ireturn, 1) := by decide +kernel
abbrev rm_X6_cakeOf : Room := k2_rm 0 0
section
variable {p : Program} {l : Launch} {e : Env} {s : State} {m : MethodId} {args : Array Value} {below : List Frame} {meth : Method} {c : Code} {D : gD} {A : Nat → Prop} {ad : Nat → Nat} {S : Nat → Nat × Nat} {σ : Mem}
set_option maxRecDepth 100000 in
set_option maxHeartbeats 4000000 in
theorem w_X6_cakeOf_L4 (Z : Cz D (Ew D A) A cX6_cakeOf 4 (some .int) RX6 p s m args meth c) {u1 : Int32} (hu0 : S 200 = (24, 0)) {r : Int32} {k30 : Int32 → Option Int32}
    (hk30 : ∀ (w2 : Int32) (H : Heap) (locs : List Loc) (ls : Array Slot), St D A ad S σ s.heap H locs → lv_has ls 4 [(2, .int w2)] → k30 w2 = some r → W p l e rm_X6_cakeOf s m args below meth c H locs 0 0 (MQ below (QG D A ad S (some (.int r)) σ) args s 0 0 A) (F0 m 30 ls [])) :
    ∀ (n : Nat) (v2 : Int32) (v3 : Int32) (H : Heap) (locs : List Loc) (ls : Array Slot), St D A ad S σ s.heap H locs → lv_has ls 4 [(0, .ref (ad 200)), (1, .int u1), (2, .int v2), (3, .int v3)] → f_X6_cakeOf_L4 k30 σ u1 n v2 v3 = some r → W p l e rm_X6_cakeOf s m args below meth c H locs 0 0 (MQ below (QG D A ad S (some (.int r)) σ) args s 0 0 A) (F0 m 4 ls []) := by
  have hx := Z.1
  have hb := Z.2.1
  have hown := Z.2.2.2.2.2.1
  have hts := Z.2.2.2.2.2.2.1
  intro n
  induction n with
  | zero => intro v2 v3 H locs ls hS hl h; cases h
  | succ n ih =>
    intro v2 v3 H locs ls hS hl h
    unfold f_X6_cakeOf_L4 at h
    refine lv_iload_n hx hb dX6_cakeOf_4 rfl (lv_at hl 3 rfl) ?_
    refine lv_bipush (v := (8 : Int32)) hx hb dX6_cakeOf_5 (by decide) ?_
    refine lv_icmp_ge (tgt := 30) hx hb dX6_cakeOf_7 (by decide) (fun c1 => ?_) (fun c1 => ?_)
    · have h := if_t h c1
      exact hk30 _ _ _ _ hS (lv_sub hl [2] rfl) h
    · have h := if_f h c1
      refine lv_iload_n hx hb dX6_cakeOf_10 rfl (lv_at hl 2 rfl) ?_
      refine lv_aload_n hx hb dX6_cakeOf_11 rfl (lv_at hl 0 rfl) ?_
      refine h_getC (n := 12) (j := 212) (sh := (1, 72)) Z hS cls_14 hu0 (by decide) rfl rfl rfl fl_X6_37_14 dX6_cakeOf_12 (fun hc2 => ?_)
      refine lv_bipush (v := (8 : Int32)) hx hb dX6_cakeOf_15 (by decide) ?_
      refine lv_iload_n hx hb dX6_cakeOf_17 rfl (lv_at hl 1 rfl) ?_
      refine lv_imul hx hb dX6_cakeOf_18 ?_
      refine lv_iload_n hx hb dX6_cakeOf_19 rfl (lv_at hl 3 rfl) ?_
      refine lv_iadd hx hb dX6_cakeOf_20 ?_
      refine h_iald Z hS hc2 dX6_cakeOf_21 h (fun x3 h => ?_)
      refine lv_iadd hx hb dX6_cakeOf_22 ?_
      refine h_leti h (fun x4 h => ?_)
      refine lv_istore_n (lv' := [(2, .int x4), (0, .ref (ad 200)), (1, .int u1), (3, .int v3)]) hx hb dX6_cakeOf_23 rfl hl (by decide) rfl (fun ls hl => ?_)
      refine lv_iinc (v := (v3 + (1 : Int32))) (lv' := [(3, .int (v3 + (1 : Int32))), (2, .int x4), (0, .ref (ad 200)), (1, .int u1)]) hx hb dX6_cakeOf_24 hl (k := 3) rfl rfl (by decide) rfl (fun ls hl => ?_)
      refine lv_goto (tgt := 4) hx hb dX6_cakeOf_27 (by decide) ?_
      exact ih _ _ _ _ _ hS (lv_sub hl [2, 3, 1, 0] rfl) h
set_option maxRecDepth 100000 in
set_option maxHeartbeats 4000000 in
theorem w_X6_cakeOf {a1 : Int32} (hi0 : S 200 = (24, 0)) {r : Int32} (h : f_X6_cakeOf σ a1 = some r) : Met l yX6_cakeOf (ws_ yX6_cakeOf cX6_cakeOf 4 (some .int)) rm_X6_cakeOf (va_Pc [.ref (ad 200), .int a1] (PreG D (Ew D A) A ad S σ)) (QG D A ad S (some (.int r)) σ) 0 0 A := by
  refine y_met (by decide) (Nat.le_of_ble_eq_true rfl) (fun p e s m below meth c ls Z hS hl => ?_)
  have hx := Z.1
  have hb := Z.2.1
  have hown := Z.2.2.2.2.2.1
  have hts := Z.2.2.2.2.2.2.1
  unfold f_X6_cakeOf at h
  refine lv_iconst (v := (0 : Int32)) hx hb dX6_cakeOf_0 (by decide) ?_
  refine lv_istore_n (lv' := [(2, .int (0 : Int32)), (0, .ref (ad 200)), (1, .int a1)]) hx hb dX6_cakeOf_1 rfl hl (by decide) rfl (fun ls hl => ?_)
  refine lv_iconst (v := (0 : Int32)) hx hb dX6_cakeOf_2 (by decide) ?_
  refine lv_istore_n (lv' := [(3, .int (0 : Int32)), (2, .int (0 : Int32)), (0, .ref (ad 200)), (1, .int a1)]) hx hb dX6_cakeOf_3 rfl hl (by decide) rfl (fun ls hl => ?_)
  refine w_X6_cakeOf_L4 Z hi0 (fun x5 H locs ls hS hl h => ?_) FU _ _ _ _ _ hS (lv_sub hl [2, 3, 1, 0] rfl) h
  refine lv_iload_n hx hb dX6_cakeOf_30 rfl (lv_at hl 0 rfl) ?_
  exact h_iret Z hS dX6_cakeOf_31 h
end
theorem dX6_pushFor_0 : decode cX6_pushFor 0 = .ok (.aload_n 0, 1) := by decide +kernel
theorem dX6_pushFor_1 : decode cX6_pushFor 1 = .ok (.iload_n 1, 1) := by decide +kernel
theorem dX6_pushFor_2 : decode cX6_pushFor 2 = .ok (.invokevirtual 192, 3) := by decide +kernel
theorem dX6_pushFor_5 : decode cX6_pushFor 5 = .ok (.istore_n 3, 1) := by decide +kernel
theorem dX6_pushFor_6 : decode cX6_pushFor 6 = .ok (.iload_n 3, 1) := by decide +kernel
theorem dX6_pushFor_7 : decode cX6_pushFor 7 = .ok (.iconst (-1), 1) := by decide +kernel
theorem dX6_pushFor_8 : decode cX6_pushFor 8 = .ok (.if_icmp .ne 5, 3) := by decide +kernel
theorem dX6_pushFor_11 : decode cX6_pushFor 11 = .ok (.iconst (-1), 1) := by decide +kernel
theorem dX6_pushFor_12 : decode cX6_pushFor 12 = .ok (.ireturn, 1) := by decide +kernel
theorem dX6_pushFor_13 : decode cX6_pushFor 13 = .ok (.aload_n 0, 1) := by decide +kernel
theorem dX6_pushFor_14 : decode cX6_pushFor 14 = .ok (.iload_n 1, 1) := by decide +kernel
theorem dX6_pushFor_15 : decode cX6_pushFor 15 = .ok (.invokevirtual 195, 3) := by decide +kernel
theorem dX6_pushFor_18 : decode cX6_pushFor 18 = .ok (.i2l, 1) := by decide +kernel
theorem dX6_pushFor_19 : decode cX6_pushFor 19 = .ok (.lstore 4, 2) := by decide +kernel
theorem dX6_pushFor_21 : decode cX6_pushFor 21 = .ok (.iconst 0, 1) := by decide +kernel
theorem dX6_pushFor_22 : decode cX6_pushFor 22 = .ok (.istore 6, 2) := by decide +kernel
theorem dX6_pushFor_24 : decode cX6_pushFor 24 = .ok (.iload 6, 2) := by decide +kernel
theorem dX6_pushFor_26 : decode cX6_pushFor 26 = .ok (.ldc 198, 2) := by decide +kernel
theorem dX6_pushFor_28 : decode cX6_pushFor 28 = .ok (.if_icmp .gt 89, 3) := by decide +kernel
theorem dX6_pushFor_31 : decode cX6_pushFor 31 = .ok (.iload_n 2, 1) := by decide +kernel
theorem dX6_pushFor_32 : decode cX6_pushFor 32 = .ok (.i2l, 1) := by decide +kernel
theorem dX6_pushFor_33 : decode cX6_pushFor 33 = .ok (.iload_n 3, 1) := by decide +kernel
theorem dX6_pushFor_34 : decode cX6_pushFor 34 = .ok (.i2l, 1) := by decide +kernel
theorem dX6_pushFor_35 : decode cX6_pushFor 35 = .ok (.lload 4, 2) := by decide +kernel
theorem dX6_pushFor_37 : decode cX6_pushFor 37 = .ok (.ldc2_w 199, 3) := by decide +kernel
theorem dX6_pushFor_40 : decode cX6_pushFor 40 = .ok (.iload 6, 2) := by decide +kernel
theorem dX6_pushFor_42 : decode cX6_pushFor 42 = .ok (.aload_n 0, 1) := by decide +kernel
theorem dX6_pushFor_43 : decode cX6_pushFor 43 = .ok (.getfield 40, 3) := by decide +kernel
theorem dX6_pushFor_46 : decode cX6_pushFor 46 = .ok (.iload_n 1, 1) := by decide +kernel
theorem dX6_pushFor_47 : decode cX6_pushFor 47 = .ok (.iaload, 1) := by decide +kernel
theorem dX6_pushFor_48 : decode cX6_pushFor 48 = .ok (.idiv, 1) := by decide +kernel
theorem dX6_pushFor_49 : decode cX6_pushFor 49 = .ok (.i2l, 1) := by decide +kernel
theorem dX6_pushFor_50 : decode cX6_pushFor 50 = .ok (.ladd, 1) := by decide +kernel
theorem dX6_pushFor_51 : decode cX6_pushFor 51 = .ok (.lmul, 1) := by decide +kernel
theorem dX6_pushFor_52 : decode cX6_pushFor 52 = .ok (.ldc2_w 199, 3) := by decide +kernel
theorem dX6_pushFor_55 : decode cX6_pushFor 55 = .ok (.ldiv, 1) := by decide +kernel
theorem dX6_pushFor_56 : decode cX6_pushFor 56 = .ok (.ladd, 1) := by decide +kernel
theorem dX6_pushFor_57 : decode cX6_pushFor 57 = .ok (.lmul, 1) := by decide +kernel
theorem dX6_pushFor_58 : decode cX6_pushFor 58 = .ok (.ldc2_w 199, 3) := by decide +kernel
theorem dX6_pushFor_61 : decode cX6_pushFor 61 = .ok (.ldiv, 1) := by decide +kernel
theorem dX6_pushFor_62 : decode cX6_pushFor 62 = .ok (.lstore 7, 2) := by decide +kernel
theorem dX6_pushFor_64 : decode cX6_pushFor 64 = .ok (.iload 6, 2) := by decide +kernel
theorem dX6_pushFor_66 : decode cX6_pushFor 66 = .ok (.i2l, 1) := by decide +kernel
theorem dX6_pushFor_67 : decode cX6_pushFor 67 = .ok (.lload 7, 2) := by decide +kernel
theorem dX6_pushFor_69 : decode cX6_pushFor 69 = .ok (.invokestatic 201, 3) := by decide +kernel
theorem dX6_pushFor_72 : decode cX6_pushFor 72 = .ok (.lstore 9, 2) := by decide +kernel
theorem dX6_pushFor_74 : decode cX6_pushFor 74 = .ok (.lload 9, 2) := by decide +kernel
theorem dX6_pushFor_76 : decode cX6_pushFor 76 = .ok (.ldc2_w 204, 3) := by decide +kernel
theorem dX6_pushFor_79 : decode cX6_pushFor 79 = .ok (.lcmp, 1) := by decide +kernel
theorem dX6_pushFor_80 : decode cX6_pushFor 80 = .ok (.ifCond .gt 23, 3) := by decide +kernel
theorem dX6_pushFor_83 : decode cX6_pushFor 83 = .ok (.lload 9, 2) := by decide +kernel
theorem dX6_pushFor_85 : decode cX6_pushFor 85 = .ok (.iload 6, 2) := by decide +kernel
theorem dX6_pushFor_87 : decode cX6_pushFor 87 = .ok (.aload_n 0, 1) := by decide +kernel
theorem dX6_pushFor_88 : decode cX6_pushFor 88 = .ok (.getfield 40, 3) := by decide +kernel
theorem dX6_pushFor_91 : decode cX6_pushFor 91 = .ok (.iload_n 1, 1) := by decide +kernel
theorem dX6_pushFor_92 : decode cX6_pushFor 92 = .ok (.iaload, 1) := by decide +kernel
theorem dX6_pushFor_93 : decode cX6_pushFor 93 = .ok (.iadd, 1) := by decide +kernel
theorem dX6_pushFor_94 : decode cX6_pushFor 94 = .ok (.i2l, 1) := by decide +kernel
theorem dX6_pushFor_95 : decode cX6_pushFor 95 = .ok (.lcmp, 1) := by decide +kernel
theorem dX6_pushFor_96 : decode cX6_pushFor 96 = .ok (.ifCond .ge 7, 3) := by decide +kernel
theorem dX6_pushFor_99 : decode cX6_pushFor 99 = .ok (.lload 9, 2) := by decide +kernel
theorem dX6_pushFor_101 : decode cX6_pushFor 101 = .ok (.l2i, 1) := by decide +kernel
theorem dX6_pushFor_102 : decode cX6_pushFor 102 = .ok (.ireturn, 1) := by decide +kernel
theorem dX6_pushFor_103 : decode cX6_pushFor 103 = .ok (.iload 6, 2) := by decide +kernel
theorem dX6_pushFor_105 : decode cX6_pushFor 105 = .ok (.aload_n 0, 1) := by decide +kernel
theorem dX6_pushFor_106 : decode cX6_pushFor 106 = .ok (.getfield 40, 3) := by decide +kernel
theorem dX6_pushFor_109 : decode cX6_pushFor 109 = .ok (.iload_n 1, 1) := by decide +kernel
theorem dX6_pushFor_110 : decode cX6_pushFor 110 = .ok (.iaload, 1) := by decide +kernel
theorem dX6_pushFor_111 : decode cX6_pushFor 111 = .ok (.iadd, 1) := by decide +kernel
theorem dX6_pushFor_112 : decode cX6_pushFor 112 = .ok (.istore 6, 2) := by decide +kernel
theorem dX6_pushFor_114 : decode cX6_pushFor 114 = .ok (.goto (-90), 3) := by decide +kernel
theorem dX6_pushFor_117 : decode cX6_pushFor 117 = .ok (.iconst (-1), 1) := by decide +kernel
theorem dX6_pushFor_118 : decode cX6_pushFor 118 = .ok (.ireturn, 1) := by decide +kernel
abbrev rm_X6_pushFor : Room := k2_rm 4 81
section
variable {p : Program} {l : Launch} {e : Env} {s : State} {m : MethodId} {args : Array Value} {below : List Frame} {meth : Method} {c : Code} {D : gD} {A : Nat → Prop} {ad : Nat → Nat} {S : Nat → Nat × Nat} {σ : Mem}
set_option maxRecDepth 100000 in
set_option maxHeartbeats 4000000 in
theorem w_X6_pushFor_L24 (Z : Cz D (Ew D A) A cX6_pushFor 11 (some .int) RX6 p s m args meth c) {u1 : Int32} {u2 : Int32} {u3 : Int32} {u4 : Int64} (hu0 : S 200 = (24, 0)) {r : Int32} {k99 : Int64 → Option Int32} {k117 : Option Int32}
    (hk99 : ∀ (w9 : Int64) (H : Heap) (locs : List Loc) (ls : Array Slot), St D A ad S σ s.heap H locs → lv_has ls 11 [(9, .long w9)] → k99 w9 = some r → W p l e rm_X6_pushFor s m args below meth c H locs 0 0 (MQ below (QG D A ad S (some (.int r)) σ) args s 0 0 A) (F0 m 99 ls []))
    (hk117 : ∀  (H : Heap) (locs : List Loc) (ls : Array Slot), St D A ad S σ s.heap H locs → lv_has ls 11 [] → k117 = some r → W p l e rm_X6_pushFor s m args below meth c H locs 0 0 (MQ below (QG D A ad S (some (.int r)) σ) args s 0 0 A) (F0 m 117 ls [])) :
    ∀ (n : Nat) (v6 : Int32) (H : Heap) (locs : List Loc) (ls : Array Slot), St D A ad S σ s.heap H locs → lv_has ls 11 [(0, .ref (ad 200)), (1, .int u1), (2, .int u2), (3, .int u3), (4, .long u4), (6, .int v6)] → f_X6_pushFor_L24 k99 k117 σ u1 u2 u3 u4 n v6 = some r → W p l e rm_X6_pushFor s m args below meth c H locs 0 0 (MQ below (QG D A ad S (some (.int r)) σ) args s 0 0 A) (F0 m 24 ls []) := by
  have hx := Z.1
  have hb := Z.2.1
  have hown := Z.2.2.2.2.2.1
  have hts := Z.2.2.2.2.2.2.1
  intro n
  induction n with
  | zero => intro v6 H locs ls hS hl h; cases h
  | succ n ih =>
    intro v6 H locs ls hS hl h
    unfold f_X6_pushFor_L24 at h
    refine lv_iload hx hb dX6_pushFor_24 (lv_at hl 5 rfl) ?_
    refine lv_ldc (v := (100000 : Int32)) hx hb hown (hts _ q1436) dX6_pushFor_26 ?_
    refine lv_icmp_gt (tgt := 117) hx hb dX6_pushFor_28 (by decide) (fun c5 => ?_) (fun c5 => ?_)
    · have h := if_t h c5
      exact hk117  _ _ _ hS (lv_sub hl [] rfl) h
    · have h := if_f h c5
      refine lv_iload_n hx hb dX6_pushFor_31 rfl (lv_at hl 2 rfl) ?_
      refine lv_i2l hx hb dX6_pushFor_32 rfl ?_
      refine lv_iload_n hx hb dX6_pushFor_33 rfl (lv_at hl 3 rfl) ?_
      refine lv_i2l hx hb dX6_pushFor_34 rfl ?_
      refine lv_lload hx hb dX6_pushFor_35 (lv_at hl 4 rfl) ?_
      refine lv_ldc2 (v := (100 : Int64)) hx hb hown (hts _ q1437) dX6_pushFor_37 ?_
      refine lv_iload hx hb dX6_pushFor_40 (lv_at hl 5 rfl) ?_
      refine lv_aload_n hx hb dX6_pushFor_42 rfl (lv_at hl 0 rfl) ?_
      refine h_getC (n := 13) (j := 213) (sh := (1, 9)) Z hS cls_14 hu0 (by decide) rfl rfl rfl fl_X6_40_14 dX6_pushFor_43 (fun hc6 => ?_)
      refine lv_iload_n hx hb dX6_pushFor_46 rfl (lv_at hl 1 rfl) ?_
      refine h_iald Z hS hc6 dX6_pushFor_47 h (fun x7 h => ?_)
      refine h_idiv Z dX6_pushFor_48 h (fun h => ?_)
      refine lv_i2l hx hb dX6_pushFor_49 rfl ?_
      refine lv_ladd hx hb dX6_pushFor_50 ?_
      refine lv_lmul hx hb dX6_pushFor_51 ?_
      refine lv_ldc2 (v := (100 : Int64)) hx hb hown (hts _ q1437) dX6_pushFor_52 ?_
      refine h_ldiv Z dX6_pushFor_55 h (fun h => ?_)
      refine lv_ladd hx hb dX6_pushFor_56 ?_
      refine lv_lmul hx hb dX6_pushFor_57 ?_
      refine lv_ldc2 (v := (100 : Int64)) hx hb hown (hts _ q1437) dX6_pushFor_58 ?_
      refine h_ldiv Z dX6_pushFor_61 h (fun h => ?_)
      refine h_letl h (fun y8 h => ?_)
      refine lv_lstore (lv' := [(7, .long y8), (0, .ref (ad 200)), (1, .int u1), (2, .int u2), (3, .int u3), (4, .long u4), (6, .int v6)]) hx hb dX6_pushFor_62 hl (by decide) rfl (fun ls hl => ?_)
      refine lv_iload hx hb dX6_pushFor_64 (lv_at hl 6 rfl) ?_
      refine lv_i2l hx hb dX6_pushFor_66 rfl ?_
      refine lv_lload hx hb dX6_pushFor_67 (lv_at hl 0 rfl) ?_
      refine y_lmax hx hb (hl.1 ▸ Z.2.2.2.2.1) Z.2.2.2.2.2 q1438 (by decide) (Nat.le_of_ble_eq_true rfl) (Nat.zero_le _) (Nat.zero_le _) dX6_pushFor_69 ?_
      refine h_letl h (fun y9 h => ?_)
      refine lv_lstore (lv' := [(9, .long y9), (7, .long y8), (0, .ref (ad 200)), (1, .int u1), (2, .int u2), (3, .int u3), (4, .long u4), (6, .int v6)]) hx hb dX6_pushFor_72 hl (by decide) rfl (fun ls hl => ?_)
      refine lv_lload hx hb dX6_pushFor_74 (lv_at hl 0 rfl) ?_
      refine lv_ldc2 (v := (100000 : Int64)) hx hb hown (hts _ q1439) dX6_pushFor_76 ?_
      refine y_lcmp_gt (tgt := 103) hx hb dX6_pushFor_79 dX6_pushFor_80 (by decide) (fun c10 => ?_) (fun c10 => ?_)
      · have h := if_t h c10
        refine lv_iload hx hb dX6_pushFor_103 (lv_at hl 7 rfl) ?_
        refine lv_aload_n hx hb dX6_pushFor_105 rfl (lv_at hl 2 rfl) ?_
        refine h_getC (n := 13) (j := 213) (sh := (1, 9)) Z hS cls_14 hu0 (by decide) rfl rfl rfl fl_X6_40_14 dX6_pushFor_106 (fun hc11 => ?_)
        refine lv_iload_n hx hb dX6_pushFor_109 rfl (lv_at hl 3 rfl) ?_
        refine h_iald Z hS hc11 dX6_pushFor_110 h (fun x12 h => ?_)
        refine lv_iadd hx hb dX6_pushFor_111 ?_
        refine h_leti h (fun x13 h => ?_)
        refine lv_istore (lv' := [(6, .int x13), (9, .long y9), (7, .long y8), (0, .ref (ad 200)), (1, .int u1), (2, .int u2), (3, .int u3), (4, .long u4)]) hx hb dX6_pushFor_112 hl (by decide) rfl (fun ls hl => ?_)
        refine lv_goto (tgt := 24) hx hb dX6_pushFor_114 (by decide) ?_
        exact ih _ _ _ _ hS (lv_sub hl [3, 4, 5, 6, 7, 0] rfl) h
      · have h := if_f h c10
        refine lv_lload hx hb dX6_pushFor_83 (lv_at hl 0 rfl) ?_
        refine lv_iload hx hb dX6_pushFor_85 (lv_at hl 7 rfl) ?_
        refine lv_aload_n hx hb dX6_pushFor_87 rfl (lv_at hl 2 rfl) ?_
        refine h_getC (n := 13) (j := 213) (sh := (1, 9)) Z hS cls_14 hu0 (by decide) rfl rfl rfl fl_X6_40_14 dX6_pushFor_88 (fun hc14 => ?_)
        refine lv_iload_n hx hb dX6_pushFor_91 rfl (lv_at hl 3 rfl) ?_
        refine h_iald Z hS hc14 dX6_pushFor_92 h (fun x15 h => ?_)
        refine lv_iadd hx hb dX6_pushFor_93 ?_
        refine lv_i2l hx hb dX6_pushFor_94 rfl ?_
        refine y_lcmp_ge (tgt := 103) hx hb dX6_pushFor_95 dX6_pushFor_96 (by decide) (fun c16 => ?_) (fun c16 => ?_)
        · have h := if_t h c16
          refine lv_iload hx hb dX6_pushFor_103 (lv_at hl 7 rfl) ?_
          refine lv_aload_n hx hb dX6_pushFor_105 rfl (lv_at hl 2 rfl) ?_
          refine h_getC (n := 13) (j := 213) (sh := (1, 9)) Z hS cls_14 hu0 (by decide) rfl rfl rfl fl_X6_40_14 dX6_pushFor_106 (fun hc17 => ?_)
          refine lv_iload_n hx hb dX6_pushFor_109 rfl (lv_at hl 3 rfl) ?_
          refine h_iald Z hS hc17 dX6_pushFor_110 h (fun x18 h => ?_)
          refine lv_iadd hx hb dX6_pushFor_111 ?_
          refine h_leti h (fun x19 h => ?_)
          refine lv_istore (lv' := [(6, .int x19), (9, .long y9), (7, .long y8), (0, .ref (ad 200)), (1, .int u1), (2, .int u2), (3, .int u3), (4, .long u4)]) hx hb dX6_pushFor_112 hl (by decide) rfl (fun ls hl => ?_)
          refine lv_goto (tgt := 24) hx hb dX6_pushFor_114 (by decide) ?_
          exact ih _ _ _ _ hS (lv_sub hl [3, 4, 5, 6, 7, 0] rfl) h
        · have h := if_f h c16
          exact hk99 _ _ _ _ hS (lv_sub hl [0] rfl) h
set_option maxRecDepth 100000 in
set_option maxHeartbeats 4000000 in
theorem w_X6_pushFor {a1 : Int32} {a2 : Int32} (hi0 : S 200 = (24, 0)) {r : Int32} (h : f_X6_pushFor σ a1 a2 = some r) : Met l yX6_pushFor (ws_ yX6_pushFor cX6_pushFor 11 (some .int)) rm_X6_pushFor (va_Pc [.ref (ad 200), .int a1, .int a2] (PreG D (Ew D A) A ad S σ)) (QG D A ad S (some (.int r)) σ) 0 0 A := by
  refine y_met (by decide) (Nat.le_of_ble_eq_true rfl) (fun p e s m below meth c ls Z hS hl => ?_)
  have hx := Z.1
  have hb := Z.2.1
  have hown := Z.2.2.2.2.2.1
  have hts := Z.2.2.2.2.2.2.1
  unfold f_X6_pushFor at h
  refine lv_aload_n hx hb dX6_pushFor_0 rfl (lv_at hl 0 rfl) ?_
  refine lv_iload_n hx hb dX6_pushFor_1 rfl (lv_at hl 1 rfl) ?_
  refine h_ci hS h (fun z hz => h_rV (rest := []) Z hS hi0 rfl v_X6_192 (w_X6_bed hi0 hz) rfl rfl ⟨by decide, by decide⟩ rfl hl.1 rfl (Nat.le_of_ble_eq_true rfl) (Nat.zero_le _) (Nat.zero_le _) dX6_pushFor_2) (fun x1 H locs hS h => ?_)
  refine lv_istore_n (lv' := [(3, .int x1), (0, .ref (ad 200)), (1, .int a1), (2, .int a2)]) hx hb dX6_pushFor_5 rfl hl (by decide) rfl (fun ls hl => ?_)
  refine lv_iload_n hx hb dX6_pushFor_6 rfl (lv_at hl 0 rfl) ?_
  refine lv_iconst (v := (-1 : Int32)) hx hb dX6_pushFor_7 (by decide) ?_
  refine lv_icmp_ne (tgt := 13) hx hb dX6_pushFor_8 (by decide) (fun c2 => ?_) (fun c2 => ?_)
  · have h := if_f h c2
    refine lv_aload_n hx hb dX6_pushFor_13 rfl (lv_at hl 1 rfl) ?_
    refine lv_iload_n hx hb dX6_pushFor_14 rfl (lv_at hl 2 rfl) ?_
    refine h_ci hS h (fun z hz => h_rV (rest := []) Z hS hi0 rfl v_X6_195 (w_X6_cakeOf hi0 hz) rfl rfl ⟨by decide, by decide⟩ rfl hl.1 rfl (Nat.le_of_ble_eq_true rfl) (Nat.zero_le _) (Nat.zero_le _) dX6_pushFor_15) (fun x3 H locs hS h => ?_)
    refine lv_i2l hx hb dX6_pushFor_18 rfl ?_
    refine h_letl h (fun y4 h => ?_)
    refine lv_lstore (lv' := [(4, .long y4), (3, .int x1), (0, .ref (ad 200)), (1, .int a1), (2, .int a2)]) hx hb dX6_pushFor_19 hl (by decide) rfl (fun ls hl => ?_)
    refine lv_iconst (v := (0 : Int32)) hx hb dX6_pushFor_21 (by decide) ?_
    refine lv_istore (lv' := [(6, .int (0 : Int32)), (4, .long y4), (3, .int x1), (0, .ref (ad 200)), (1, .int a1), (2, .int a2)]) hx hb dX6_pushFor_22 hl (by decide) rfl (fun ls hl => ?_)
    refine w_X6_pushFor_L24 Z hi0 (fun y20 H locs ls hS hl h => ?_) (fun  H locs ls hS hl h => ?_) FU _ _ _ _ hS (lv_sub hl [3, 4, 5, 2, 1, 0] rfl) h
    · refine lv_lload hx hb dX6_pushFor_99 (lv_at hl 0 rfl) ?_
      refine lv_l2i hx hb dX6_pushFor_101 rfl ?_
      exact h_iret Z hS dX6_pushFor_102 h
    · refine lv_iconst (v := (-1 : Int32)) hx hb dX6_pushFor_117 (by decide) ?_
      exact h_iret Z hS dX6_pushFor_118 h
  · have h := if_t h c2
    refine lv_iconst (v := (-1 : Int32)) hx hb dX6_pushFor_11 (by decide) ?_
    exact h_iret Z hS dX6_pushFor_12 h
end
theorem dX6_push_0 : decode cX6_push 0 = .ok (.aload_n 0, 1) := by decide +kernel
theorem dX6_push_1 : decode cX6_push 1 = .ok (.iload_n 1, 1) := by decide +kernel
theorem dX6_push_2 : decode cX6_push 2 = .ok (.invokevirtual 168, 3) := by decide +kernel
theorem dX6_push_5 : decode cX6_push 5 = .ok (.ifCond .eq 23, 3) := by decide +kernel
theorem dX6_push_8 : decode cX6_push 8 = .ok (.iload_n 2, 1) := by decide +kernel
theorem dX6_push_9 : decode cX6_push 9 = .ok (.iconst 1, 1) := by decide +kernel
theorem dX6_push_10 : decode cX6_push 10 = .ok (.sipush 1000, 3) := by decide +kernel
theorem dX6_push_13 : decode cX6_push 13 = .ok (.invokestatic 161, 3) := by decide +kernel
theorem dX6_push_16 : decode cX6_push 16 = .ok (.ifCond .eq 12, 3) := by decide +kernel
theorem dX6_push_19 : decode cX6_push 19 = .ok (.aload_n 0, 1) := by decide +kernel
theorem dX6_push_20 : decode cX6_push 20 = .ok (.iload_n 1, 1) := by decide +kernel
theorem dX6_push_21 : decode cX6_push 21 = .ok (.iload_n 2, 1) := by decide +kernel
theorem dX6_push_22 : decode cX6_push 22 = .ok (.invokevirtual 206, 3) := by decide +kernel
theorem dX6_push_25 : decode cX6_push 25 = .ok (.goto 4, 3) := by decide +kernel
theorem dX6_push_28 : decode cX6_push 28 = .ok (.iconst (-1), 1) := by decide +kernel
theorem dX6_push_29 : decode cX6_push 29 = .ok (.ireturn, 1) := by decide +kernel
abbrev rm_X6_push : Room := k2_rm 5 111
section
variable {p : Program} {l : Launch} {e : Env} {s : State} {m : MethodId} {args : Array Value} {below : List Frame} {meth : Method} {c : Code} {D : gD} {A : Nat → Prop} {ad : Nat → Nat} {S : Nat → Nat × Nat} {σ : Mem}
set_option maxRecDepth 100000 in
set_option maxHeartbeats 4000000 in
theorem w_X6_push {a1 : Int32} {a2 : Int32} (hi0 : S 200 = (24, 0)) {r : Int32} (h : f_X6_push σ a1 a2 = some r) : Met l yX6_push (ws_ yX6_push cX6_push 3 (some .int)) rm_X6_push (va_Pc [.ref (ad 200), .int a1, .int a2] (PreG D (Ew D A) A ad S σ)) (QG D A ad S (some (.int r)) σ) 0 0 A := by
  refine y_met (by decide) (Nat.le_of_ble_eq_true rfl) (fun p e s m below meth c ls Z hS hl => ?_)
  have hx := Z.1
  have hb := Z.2.1
  have hown := Z.2.2.2.2.2.1
  have hts := Z.2.2.2.2.2.2.1
  unfold f_X6_push at h
  refine lv_aload_n hx hb dX6_push_0 rfl (lv_at hl 0 rfl) ?_
  refine lv_iload_n hx hb dX6_push_1 rfl (lv_at hl 1 rfl) ?_
  refine h_ci hS h (fun z hz => h_rV (rest := []) Z hS hi0 rfl v_X6_168 (w_X6_isFilter hi0 hz) rfl rfl ⟨by decide, by decide⟩ rfl hl.1 rfl (Nat.le_of_ble_eq_true rfl) (Nat.zero_le _) (Nat.zero_le _) dX6_push_2) (fun x1 H locs hS h => ?_)
  refine lv_if_eq (tgt := 28) hx hb dX6_push_5 (by decide) (fun c2 => ?_) (fun c2 => ?_)
  · have h := if_t h c2
    refine lv_iconst (v := (-1 : Int32)) hx hb dX6_push_28 (by decide) ?_
    exact h_iret Z hS dX6_push_29 h
  · have h := if_f h c2
    refine lv_iload_n hx hb dX6_push_8 rfl (lv_at hl 2 rfl) ?_
    refine lv_iconst (v := (1 : Int32)) hx hb dX6_push_9 (by decide) ?_
    refine lv_sipush (v := (1000 : Int32)) hx hb dX6_push_10 (by decide) ?_
    refine h_ci hS h (fun z hz => h_rS (rest := []) Z hS v_X6_161 (w_X6_in hz) rfl rfl ⟨by decide, by decide⟩ rfl hl.1 rfl (Nat.le_of_ble_eq_true rfl) (Nat.zero_le _) (Nat.zero_le _) dX6_push_13) (fun x3 H locs hS h => ?_)
    refine lv_if_eq (tgt := 28) hx hb dX6_push_16 (by decide) (fun c4 => ?_) (fun c4 => ?_)
    · have h := if_t h c4
      refine lv_iconst (v := (-1 : Int32)) hx hb dX6_push_28 (by decide) ?_
      exact h_iret Z hS dX6_push_29 h
    · have h := if_f h c4
      refine lv_aload_n hx hb dX6_push_19 rfl (lv_at hl 0 rfl) ?_
      refine lv_iload_n hx hb dX6_push_20 rfl (lv_at hl 1 rfl) ?_
      refine lv_iload_n hx hb dX6_push_21 rfl (lv_at hl 2 rfl) ?_
      refine h_ci hS h (fun z hz => h_rV (rest := []) Z hS hi0 rfl v_X6_206 (w_X6_pushFor hi0 hz) rfl rfl ⟨by decide, by decide⟩ rfl hl.1 rfl (Nat.le_of_ble_eq_true rfl) (Nat.zero_le _) (Nat.zero_le _) dX6_push_22) (fun x5 H locs hS h => ?_)
      refine lv_goto (tgt := 29) hx hb dX6_push_25 (by decide) ?_
      exact h_iret Z hS dX6_push_29 h
end
theorem dX6_isCell_0 : decode cX6_isCell 0 = .ok (.aload_n 0, 1) := by decide +kernel
theorem dX6_isCell_1 : decode cX6_isCell 1 = .ok (.iload_n 1, 1) := by decide +kernel
theorem dX6_isCell_2 : decode cX6_isCell 2 = .ok (.invokevirtual 168, 3) := by decide +kernel
theorem dX6_isCell_5 : decode cX6_isCell 5 = .ok (.ifCond .eq 23, 3) := by decide +kernel
theorem dX6_isCell_8 : decode cX6_isCell 8 = .ok (.iload_n 2, 1) := by decide +kernel
theorem dX6_isCell_9 : decode cX6_isCell 9 = .ok (.iconst 0, 1) := by decide +kernel
theorem dX6_isCell_10 : decode cX6_isCell 10 = .ok (.aload_n 0, 1) := by decide +kernel
theorem dX6_isCell_11 : decode cX6_isCell 11 = .ok (.getfield 19, 3) := by decide +kernel
theorem dX6_isCell_14 : decode cX6_isCell 14 = .ok (.iload_n 1, 1) := by decide +kernel
theorem dX6_isCell_15 : decode cX6_isCell 15 = .ok (.iaload, 1) := by decide +kernel
theorem dX6_isCell_16 : decode cX6_isCell 16 = .ok (.iconst 1, 1) := by decide +kernel
theorem dX6_isCell_17 : decode cX6_isCell 17 = .ok (.isub, 1) := by decide +kernel
theorem dX6_isCell_18 : decode cX6_isCell 18 = .ok (.invokestatic 161, 3) := by decide +kernel
theorem dX6_isCell_21 : decode cX6_isCell 21 = .ok (.ifCond .eq 7, 3) := by decide +kernel
theorem dX6_isCell_24 : decode cX6_isCell 24 = .ok (.iconst 1, 1) := by decide +kernel
theorem dX6_isCell_25 : decode cX6_isCell 25 = .ok (.goto 4, 3) := by decide +kernel
theorem dX6_isCell_28 : decode cX6_isCell 28 = .ok (.iconst 0, 1) := by decide +kernel
theorem dX6_isCell_29 : decode cX6_isCell 29 = .ok (.ireturn, 1) := by decide +kernel
abbrev rm_X6_isCell : Room := k2_rm 2 43
section
variable {p : Program} {l : Launch} {e : Env} {s : State} {m : MethodId} {args : Array Value} {below : List Frame} {meth : Method} {c : Code} {D : gD} {A : Nat → Prop} {ad : Nat → Nat} {S : Nat → Nat × Nat} {σ : Mem}
set_option maxRecDepth 100000 in
set_option maxHeartbeats 4000000 in
theorem w_X6_isCell {a1 : Int32} {a2 : Int32} (hi0 : S 200 = (24, 0)) {r : Int32} (h : f_X6_isCell σ a1 a2 = some r) : Met l yX6_isCell (ws_ yX6_isCell cX6_isCell 3 (some .boolean)) rm_X6_isCell (va_Pc [.ref (ad 200), .int a1, .int a2] (PreG D (Ew D A) A ad S σ)) (QG D A ad S (some (.int r)) σ) 0 0 A := by
  refine y_met (by decide) (Nat.le_of_ble_eq_true rfl) (fun p e s m below meth c ls Z hS hl => ?_)
  have hx := Z.1
  have hb := Z.2.1
  have hown := Z.2.2.2.2.2.1
  have hts := Z.2.2.2.2.2.2.1
  unfold f_X6_isCell at h
  refine lv_aload_n hx hb dX6_isCell_0 rfl (lv_at hl 0 rfl) ?_
  refine lv_iload_n hx hb dX6_isCell_1 rfl (lv_at hl 1 rfl) ?_
  refine h_ci hS h (fun z hz => h_rV (rest := []) Z hS hi0 rfl v_X6_168 (w_X6_isFilter hi0 hz) rfl rfl ⟨by decide, by decide⟩ rfl hl.1 rfl (Nat.le_of_ble_eq_true rfl) (Nat.zero_le _) (Nat.zero_le _) dX6_isCell_2) (fun x1 H locs hS h => ?_)
  refine lv_if_eq (tgt := 28) hx hb dX6_isCell_5 (by decide) (fun c2 => ?_) (fun c2 => ?_)
  · have h := if_t h c2
    refine lv_iconst (v := (0 : Int32)) hx hb dX6_isCell_28 (by decide) ?_
    exact h_zret Z hS dX6_isCell_29 h
  · have h := if_f h c2
    refine lv_iload_n hx hb dX6_isCell_8 rfl (lv_at hl 2 rfl) ?_
    refine lv_iconst (v := (0 : Int32)) hx hb dX6_isCell_9 (by decide) ?_
    refine lv_aload_n hx hb dX6_isCell_10 rfl (lv_at hl 0 rfl) ?_
    refine h_getC (n := 6) (j := 206) (sh := (1, 9)) Z hS cls_14 hi0 (by decide) rfl rfl rfl fl_X6_19_14 dX6_isCell_11 (fun hc3 => ?_)
    refine lv_iload_n hx hb dX6_isCell_14 rfl (lv_at hl 1 rfl) ?_
    refine h_iald Z hS hc3 dX6_isCell_15 h (fun x4 h => ?_)
    refine lv_iconst (v := (1 : Int32)) hx hb dX6_isCell_16 (by decide) ?_
    refine lv_isub hx hb dX6_isCell_17 ?_
    refine h_ci hS h (fun z hz => h_rS (rest := []) Z hS v_X6_161 (w_X6_in hz) rfl rfl ⟨by decide, by decide⟩ rfl hl.1 rfl (Nat.le_of_ble_eq_true rfl) (Nat.zero_le _) (Nat.zero_le _) dX6_isCell_18) (fun x5 H locs hS h => ?_)
    refine lv_if_eq (tgt := 28) hx hb dX6_isCell_21 (by decide) (fun c6 => ?_) (fun c6 => ?_)
    · have h := if_t h c6
      refine lv_iconst (v := (0 : Int32)) hx hb dX6_isCell_28 (by decide) ?_
      exact h_zret Z hS dX6_isCell_29 h
    · have h := if_f h c6
      refine lv_iconst (v := (1 : Int32)) hx hb dX6_isCell_24 (by decide) ?_
      refine lv_goto (tgt := 29) hx hb dX6_isCell_25 (by decide) ?_
      exact h_zret Z hS dX6_isCell_29 h
end
theorem dX6_celled_0 : decode cX6_celled 0 = .ok (.aload_n 0, 1) := by decide +kernel
theorem dX6_celled_1 : decode cX6_celled 1 = .ok (.iload_n 1, 1) := by decide +kernel
theorem dX6_celled_2 : decode cX6_celled 2 = .ok (.iload_n 2, 1) := by decide +kernel
theorem dX6_celled_3 : decode cX6_celled 3 = .ok (.invokevirtual 209, 3) := by decide +kernel
theorem dX6_celled_6 : decode cX6_celled 6 = .ok (.ifCond .ne 5, 3) := by decide +kernel
theorem dX6_celled_9 : decode cX6_celled 9 = .ok (.iconst (-1), 1) := by decide +kernel
theorem dX6_celled_10 : decode cX6_celled 10 = .ok (.ireturn, 1) := by decide +kernel
theorem dX6_celled_11 : decode cX6_celled 11 = .ok (.iload_n 3, 1) := by decide +kernel
theorem dX6_celled_12 : decode cX6_celled 12 = .ok (.tableswitch 84 0 4 #[36, 48, 60, 67, 77], 36) := by decide +kernel
theorem dX6_celled_48 : decode cX6_celled 48 = .ok (.aload_n 0, 1) := by decide +kernel
theorem dX6_celled_49 : decode cX6_celled 49 = .ok (.getfield 22, 3) := by decide +kernel
theorem dX6_celled_52 : decode cX6_celled 52 = .ok (.bipush 10, 2) := by decide +kernel
theorem dX6_celled_54 : decode cX6_celled 54 = .ok (.iload_n 1, 1) := by decide +kernel
theorem dX6_celled_55 : decode cX6_celled 55 = .ok (.imul, 1) := by decide +kernel
theorem dX6_celled_56 : decode cX6_celled 56 = .ok (.iload_n 2, 1) := by decide +kernel
theorem dX6_celled_57 : decode cX6_celled 57 = .ok (.iadd, 1) := by decide +kernel
theorem dX6_celled_58 : decode cX6_celled 58 = .ok (.iaload, 1) := by decide +kernel
theorem dX6_celled_59 : decode cX6_celled 59 = .ok (.ireturn, 1) := by decide +kernel
theorem dX6_celled_60 : decode cX6_celled 60 = .ok (.aload_n 0, 1) := by decide +kernel
theorem dX6_celled_61 : decode cX6_celled 61 = .ok (.getfield 28, 3) := by decide +kernel
theorem dX6_celled_64 : decode cX6_celled 64 = .ok (.bipush 10, 2) := by decide +kernel
theorem dX6_celled_66 : decode cX6_celled 66 = .ok (.iload_n 1, 1) := by decide +kernel
theorem dX6_celled_67 : decode cX6_celled 67 = .ok (.imul, 1) := by decide +kernel
theorem dX6_celled_68 : decode cX6_celled 68 = .ok (.iload_n 2, 1) := by decide +kernel
theorem dX6_celled_69 : decode cX6_celled 69 = .ok (.iadd, 1) := by decide +kernel
theorem dX6_celled_70 : decode cX6_celled 70 = .ok (.iaload, 1) := by decide +kernel
theorem dX6_celled_71 : decode cX6_celled 71 = .ok (.ireturn, 1) := by decide +kernel
theorem dX6_celled_72 : decode cX6_celled 72 = .ok (.aload_n 0, 1) := by decide +kernel
theorem dX6_celled_73 : decode cX6_celled 73 = .ok (.iload_n 1, 1) := by decide +kernel
theorem dX6_celled_74 : decode cX6_celled 74 = .ok (.iload_n 2, 1) := by decide +kernel
theorem dX6_celled_75 : decode cX6_celled 75 = .ok (.invokevirtual 185, 3) := by decide +kernel
theorem dX6_celled_78 : decode cX6_celled 78 = .ok (.ireturn, 1) := by decide +kernel
theorem dX6_celled_79 : decode cX6_celled 79 = .ok (.aload_n 0, 1) := by decide +kernel
theorem dX6_celled_80 : decode cX6_celled 80 = .ok (.iload_n 1, 1) := by decide +kernel
theorem dX6_celled_81 : decode cX6_celled 81 = .ok (.iload_n 2, 1) := by decide +kernel
theorem dX6_celled_82 : decode cX6_celled 82 = .ok (.invokevirtual 185, 3) := by decide +kernel
theorem dX6_celled_85 : decode cX6_celled 85 = .ok (.invokestatic 188, 3) := by decide +kernel
theorem dX6_celled_88 : decode cX6_celled 88 = .ok (.ireturn, 1) := by decide +kernel
theorem dX6_celled_89 : decode cX6_celled 89 = .ok (.aload_n 0, 1) := by decide +kernel
theorem dX6_celled_90 : decode cX6_celled 90 = .ok (.iload_n 1, 1) := by decide +kernel
theorem dX6_celled_91 : decode cX6_celled 91 = .ok (.iload_n 2, 1) := by decide +kernel
theorem dX6_celled_92 : decode cX6_celled 92 = .ok (.invokevirtual 178, 3) := by decide +kernel
theorem dX6_celled_95 : decode cX6_celled 95 = .ok (.ireturn, 1) := by decide +kernel
theorem dX6_celled_96 : decode cX6_celled 96 = .ok (.iconst (-1), 1) := by decide +kernel
theorem dX6_celled_97 : decode cX6_celled 97 = .ok (.ireturn, 1) := by decide +kernel
abbrev rm_X6_celled : Room := k2_rm 3 65
section
variable {p : Program} {l : Launch} {e : Env} {s : State} {m : MethodId} {args : Array Value} {below : List Frame} {meth : Method} {c : Code} {D : gD} {A : Nat → Prop} {ad : Nat → Nat} {S : Nat → Nat × Nat} {σ : Mem}
set_option maxRecDepth 100000 in
set_option maxHeartbeats 4000000 in
theorem w_X6_celled {a1 : Int32} {a2 : Int32} {a3 : Int32} (hi0 : S 200 = (24, 0)) {r : Int32} (h : f_X6_celled σ a1 a2 a3 = some r) : Met l yX6_celled (ws_ yX6_celled cX6_celled 4 (some .int)) rm_X6_celled (va_Pc [.ref (ad 200), .int a1, .int a2, .int a3] (PreG D (Ew D A) A ad S σ)) (QG D A ad S (some (.int r)) σ) 0 0 A := by
  refine y_met (by decide) (Nat.le_of_ble_eq_true rfl) (fun p e s m below meth c ls Z hS hl => ?_)
  have hx := Z.1
  have hb := Z.2.1
  have hown := Z.2.2.2.2.2.1
  have hts := Z.2.2.2.2.2.2.1
  unfold f_X6_celled at h
  refine lv_aload_n hx hb dX6_celled_0 rfl (lv_at hl 0 rfl) ?_
  refine lv_iload_n hx hb dX6_celled_1 rfl (lv_at hl 1 rfl) ?_
  refine lv_iload_n hx hb dX6_celled_2 rfl (lv_at hl 2 rfl) ?_
  refine h_ci hS h (fun z hz => h_rV (rest := []) Z hS hi0 rfl v_X6_209 (w_X6_isCell hi0 hz) rfl rfl ⟨by decide, by decide⟩ rfl hl.1 rfl (Nat.le_of_ble_eq_true rfl) (Nat.zero_le _) (Nat.zero_le _) dX6_celled_3) (fun x1 H locs hS h => ?_)
  refine lv_if_ne (tgt := 11) hx hb dX6_celled_6 (by decide) (fun c2 => ?_) (fun c2 => ?_)
  · have h := if_f h c2
    refine lv_iload_n hx hb dX6_celled_11 rfl (lv_at hl 3 rfl) ?_
    by_cases c3_0 : a3 = (0 : Int32)
    · refine h_tsw (k := (0 : Int32)) (off := 36) (tgt := 48) Z dX6_celled_12 c3_0 (by decide) (by decide) rfl (by decide) ?_
      have h := if_t h c3_0
      refine lv_aload_n hx hb dX6_celled_48 rfl (lv_at hl 0 rfl) ?_
      refine h_getC (n := 7) (j := 207) (sh := (1, 90)) Z hS cls_14 hi0 (by decide) rfl rfl rfl fl_X6_22_14 dX6_celled_49 (fun hc4 => ?_)
      refine lv_bipush (v := (10 : Int32)) hx hb dX6_celled_52 (by decide) ?_
      refine lv_iload_n hx hb dX6_celled_54 rfl (lv_at hl 1 rfl) ?_
      refine lv_imul hx hb dX6_celled_55 ?_
      refine lv_iload_n hx hb dX6_celled_56 rfl (lv_at hl 2 rfl) ?_
      refine lv_iadd hx hb dX6_celled_57 ?_
      refine h_iald Z hS hc4 dX6_celled_58 h (fun x5 h => ?_)
      exact h_iret Z hS dX6_celled_59 h
    replace h := if_f h c3_0
    by_cases c3_1 : a3 = (1 : Int32)
    · refine h_tsw (k := (1 : Int32)) (off := 48) (tgt := 60) Z dX6_celled_12 c3_1 (by decide) (by decide) rfl (by decide) ?_
      have h := if_t h c3_1
      refine lv_aload_n hx hb dX6_celled_60 rfl (lv_at hl 0 rfl) ?_
      refine h_getC (n := 9) (j := 209) (sh := (1, 90)) Z hS cls_14 hi0 (by decide) rfl rfl rfl fl_X6_28_14 dX6_celled_61 (fun hc6 => ?_)
      refine lv_bipush (v := (10 : Int32)) hx hb dX6_celled_64 (by decide) ?_
      refine lv_iload_n hx hb dX6_celled_66 rfl (lv_at hl 1 rfl) ?_
      refine lv_imul hx hb dX6_celled_67 ?_
      refine lv_iload_n hx hb dX6_celled_68 rfl (lv_at hl 2 rfl) ?_
      refine lv_iadd hx hb dX6_celled_69 ?_
      refine h_iald Z hS hc6 dX6_celled_70 h (fun x7 h => ?_)
      exact h_iret Z hS dX6_celled_71 h
    replace h := if_f h c3_1
    by_cases c3_2 : a3 = (2 : Int32)
    · refine h_tsw (k := (2 : Int32)) (off := 60) (tgt := 72) Z dX6_celled_12 c3_2 (by decide) (by decide) rfl (by decide) ?_
      have h := if_t h c3_2
      refine lv_aload_n hx hb dX6_celled_72 rfl (lv_at hl 0 rfl) ?_
      refine lv_iload_n hx hb dX6_celled_73 rfl (lv_at hl 1 rfl) ?_
      refine lv_iload_n hx hb dX6_celled_74 rfl (lv_at hl 2 rfl) ?_
      refine h_ci hS h (fun z hz => h_rV (rest := []) Z hS hi0 rfl v_X6_185 (w_X6_width hi0 hz) rfl rfl ⟨by decide, by decide⟩ rfl hl.1 rfl (Nat.le_of_ble_eq_true rfl) (Nat.zero_le _) (Nat.zero_le _) dX6_celled_75) (fun x8 H locs hS h => ?_)
      exact h_iret Z hS dX6_celled_78 h
    replace h := if_f h c3_2
    by_cases c3_3 : a3 = (3 : Int32)
    · refine h_tsw (k := (3 : Int32)) (off := 67) (tgt := 79) Z dX6_celled_12 c3_3 (by decide) (by decide) rfl (by decide) ?_
      have h := if_t h c3_3
      refine lv_aload_n hx hb dX6_celled_79 rfl (lv_at hl 0 rfl) ?_
      refine lv_iload_n hx hb dX6_celled_80 rfl (lv_at hl 1 rfl) ?_
      refine lv_iload_n hx hb dX6_celled_81 rfl (lv_at hl 2 rfl) ?_
      refine h_ci hS h (fun z hz => h_rV (rest := []) Z hS hi0 rfl v_X6_185 (w_X6_width hi0 hz) rfl rfl ⟨by decide, by decide⟩ rfl hl.1 rfl (Nat.le_of_ble_eq_true rfl) (Nat.zero_le _) (Nat.zero_le _) dX6_celled_82) (fun x9 H locs hS h => ?_)
      refine h_ci hS h (fun z hz => h_rS (rest := []) Z hS v_X6_188 (w_X6_resistOf hz) rfl rfl ⟨by decide, by decide⟩ rfl hl.1 rfl (Nat.le_of_ble_eq_true rfl) (Nat.zero_le _) (Nat.zero_le _) dX6_celled_85) (fun x10 H locs hS h => ?_)
      exact h_iret Z hS dX6_celled_88 h
    replace h := if_f h c3_3
    by_cases c3_4 : a3 = (4 : Int32)
    · refine h_tsw (k := (4 : Int32)) (off := 77) (tgt := 89) Z dX6_celled_12 c3_4 (by decide) (by decide) rfl (by decide) ?_
      have h := if_t h c3_4
      refine lv_aload_n hx hb dX6_celled_89 rfl (lv_at hl 0 rfl) ?_
      refine lv_iload_n hx hb dX6_celled_90 rfl (lv_at hl 1 rfl) ?_
      refine lv_iload_n hx hb dX6_celled_91 rfl (lv_at hl 2 rfl) ?_
      refine h_ci hS h (fun z hz => h_rV (rest := []) Z hS hi0 rfl v_X6_178 (w_X6_heldIn hi0 hz) rfl rfl ⟨by decide, by decide⟩ rfl hl.1 rfl (Nat.le_of_ble_eq_true rfl) (Nat.zero_le _) (Nat.zero_le _) dX6_celled_92) (fun x11 H locs hS h => ?_)
      exact h_iret Z hS dX6_celled_95 h
    replace h := if_f h c3_4
    refine h_tswd (n := 4) (tgt := 96) Z dX6_celled_12 (by decide) (fun t ht => ?_) (by decide) ?_
    · rcases (show t = 0 ∨ t = 1 ∨ t = 2 ∨ t = 3 ∨ t = 4 by omega) with rfl | rfl | rfl | rfl | rfl
      · exact Or.inr (ne_int c3_0 (by decide))
      · exact Or.inr (ne_int c3_1 (by decide))
      · exact Or.inr (ne_int c3_2 (by decide))
      · exact Or.inr (ne_int c3_3 (by decide))
      · exact Or.inr (ne_int c3_4 (by decide))
    refine lv_iconst (v := (-1 : Int32)) hx hb dX6_celled_96 (by decide) ?_
    exact h_iret Z hS dX6_celled_97 h
  · have h := if_t h c2
    refine lv_iconst (v := (-1 : Int32)) hx hb dX6_celled_9 (by decide) ?_
    exact h_iret Z hS dX6_celled_10 h
end
theorem dX6_held_0 : decode cX6_held 0 = .ok (.aload_n 0, 1) := by decide +kernel
theorem dX6_held_1 : decode cX6_held 1 = .ok (.iload_n 1, 1) := by decide +kernel
theorem dX6_held_2 : decode cX6_held 2 = .ok (.iload_n 2, 1) := by decide +kernel
theorem dX6_held_3 : decode cX6_held 3 = .ok (.invokevirtual 209, 3) := by decide +kernel
theorem dX6_held_6 : decode cX6_held 6 = .ok (.ifCond .eq 23, 3) := by decide +kernel
theorem dX6_held_9 : decode cX6_held 9 = .ok (.iload_n 3, 1) := by decide +kernel
theorem dX6_held_10 : decode cX6_held 10 = .ok (.iconst 0, 1) := by decide +kernel
theorem dX6_held_11 : decode cX6_held 11 = .ok (.bipush 7, 2) := by decide +kernel
theorem dX6_held_13 : decode cX6_held 13 = .ok (.invokestatic 161, 3) := by decide +kernel
theorem dX6_held_16 : decode cX6_held 16 = .ok (.ifCond .eq 13, 3) := by decide +kernel
theorem dX6_held_19 : decode cX6_held 19 = .ok (.iload 4, 2) := by decide +kernel
theorem dX6_held_21 : decode cX6_held 21 = .ok (.iconst 0, 1) := by decide +kernel
theorem dX6_held_22 : decode cX6_held 22 = .ok (.iconst 1, 1) := by decide +kernel
theorem dX6_held_23 : decode cX6_held 23 = .ok (.invokestatic 161, 3) := by decide +kernel
theorem dX6_held_26 : decode cX6_held 26 = .ok (.ifCond .ne 5, 3) := by decide +kernel
theorem dX6_held_29 : decode cX6_held 29 = .ok (.iconst (-1), 1) := by decide +kernel
theorem dX6_held_30 : decode cX6_held 30 = .ok (.ireturn, 1) := by decide +kernel
theorem dX6_held_31 : decode cX6_held 31 = .ok (.bipush 8, 2) := by decide +kernel
theorem dX6_held_33 : decode cX6_held 33 = .ok (.bipush 10, 2) := by decide +kernel
theorem dX6_held_35 : decode cX6_held 35 = .ok (.iload_n 1, 1) := by decide +kernel
theorem dX6_held_36 : decode cX6_held 36 = .ok (.imul, 1) := by decide +kernel
theorem dX6_held_37 : decode cX6_held 37 = .ok (.iload_n 2, 1) := by decide +kernel
theorem dX6_held_38 : decode cX6_held 38 = .ok (.iadd, 1) := by decide +kernel
theorem dX6_held_39 : decode cX6_held 39 = .ok (.imul, 1) := by decide +kernel
theorem dX6_held_40 : decode cX6_held 40 = .ok (.iload_n 3, 1) := by decide +kernel
theorem dX6_held_41 : decode cX6_held 41 = .ok (.iadd, 1) := by decide +kernel
theorem dX6_held_42 : decode cX6_held 42 = .ok (.istore 5, 2) := by decide +kernel
theorem dX6_held_44 : decode cX6_held 44 = .ok (.iload 4, 2) := by decide +kernel
theorem dX6_held_46 : decode cX6_held 46 = .ok (.ifCond .ne 13, 3) := by decide +kernel
theorem dX6_held_49 : decode cX6_held 49 = .ok (.aload_n 0, 1) := by decide +kernel
theorem dX6_held_50 : decode cX6_held 50 = .ok (.getfield 31, 3) := by decide +kernel
theorem dX6_held_53 : decode cX6_held 53 = .ok (.iload 5, 2) := by decide +kernel
theorem dX6_held_55 : decode cX6_held 55 = .ok (.iaload, 1) := by decide +kernel
theorem dX6_held_56 : decode cX6_held 56 = .ok (.goto 10, 3) := by decide +kernel
theorem dX6_held_59 : decode cX6_held 59 = .ok (.aload_n 0, 1) := by decide +kernel
theorem dX6_held_60 : decode cX6_held 60 = .ok (.getfield 34, 3) := by decide +kernel
theorem dX6_held_63 : decode cX6_held 63 = .ok (.iload 5, 2) := by decide +kernel
theorem dX6_held_65 : decode cX6_held 65 = .ok (.iaload, 1) := by decide +kernel
theorem dX6_held_66 : decode cX6_held 66 = .ok (.ireturn, 1) := by decide +kernel
abbrev rm_X6_held : Room := k2_rm 3 65
section
variable {p : Program} {l : Launch} {e : Env} {s : State} {m : MethodId} {args : Array Value} {below : List Frame} {meth : Method} {c : Code} {D : gD} {A : Nat → Prop} {ad : Nat → Nat} {S : Nat → Nat × Nat} {σ : Mem}
set_option maxRecDepth 100000 in
set_option maxHeartbeats 4000000 in
theorem w_X6_held {a1 : Int32} {a2 : Int32} {a3 : Int32} {a4 : Int32} (hi0 : S 200 = (24, 0)) {r : Int32} (h : f_X6_held σ a1 a2 a3 a4 = some r) : Met l yX6_held (ws_ yX6_held cX6_held 6 (some .int)) rm_X6_held (va_Pc [.ref (ad 200), .int a1, .int a2, .int a3, .int a4] (PreG D (Ew D A) A ad S σ)) (QG D A ad S (some (.int r)) σ) 0 0 A := by
  refine y_met (by decide) (Nat.le_of_ble_eq_true rfl) (fun p e s m below meth c ls Z hS hl => ?_)
  have hx := Z.1
  have hb := Z.2.1
  have hown := Z.2.2.2.2.2.1
  have hts := Z.2.2.2.2.2.2.1
  unfold f_X6_held at h
  refine lv_aload_n hx hb dX6_held_0 rfl (lv_at hl 0 rfl) ?_
  refine lv_iload_n hx hb dX6_held_1 rfl (lv_at hl 1 rfl) ?_
  refine lv_iload_n hx hb dX6_held_2 rfl (lv_at hl 2 rfl) ?_
  refine h_ci hS h (fun z hz => h_rV (rest := []) Z hS hi0 rfl v_X6_209 (w_X6_isCell hi0 hz) rfl rfl ⟨by decide, by decide⟩ rfl hl.1 rfl (Nat.le_of_ble_eq_true rfl) (Nat.zero_le _) (Nat.zero_le _) dX6_held_3) (fun x1 H locs hS h => ?_)
  refine lv_if_eq (tgt := 29) hx hb dX6_held_6 (by decide) (fun c2 => ?_) (fun c2 => ?_)
  · have h := if_t h c2
    refine lv_iconst (v := (-1 : Int32)) hx hb dX6_held_29 (by decide) ?_
    exact h_iret Z hS dX6_held_30 h
  · have h := if_f h c2
    refine lv_iload_n hx hb dX6_held_9 rfl (lv_at hl 3 rfl) ?_
    refine lv_iconst (v := (0 : Int32)) hx hb dX6_held_10 (by decide) ?_
    refine lv_bipush (v := (7 : Int32)) hx hb dX6_held_11 (by decide) ?_
    refine h_ci hS h (fun z hz => h_rS (rest := []) Z hS v_X6_161 (w_X6_in hz) rfl rfl ⟨by decide, by decide⟩ rfl hl.1 rfl (Nat.le_of_ble_eq_true rfl) (Nat.zero_le _) (Nat.zero_le _) dX6_held_13) (fun x3 H locs hS h => ?_)
    refine lv_if_eq (tgt := 29) hx hb dX6_held_16 (by decide) (fun c4 => ?_) (fun c4 => ?_)
    · have h := if_t h c4
      refine lv_iconst (v := (-1 : Int32)) hx hb dX6_held_29 (by decide) ?_
      exact h_iret Z hS dX6_held_30 h
    · have h := if_f h c4
      refine lv_iload hx hb dX6_held_19 (lv_at hl 4 rfl) ?_
      refine lv_iconst (v := (0 : Int32)) hx hb dX6_held_21 (by decide) ?_
      refine lv_iconst (v := (1 : Int32)) hx hb dX6_held_22 (by decide) ?_
      refine h_ci hS h (fun z hz => h_rS (rest := []) Z hS v_X6_161 (w_X6_in hz) rfl rfl ⟨by decide, by decide⟩ rfl hl.1 rfl (Nat.le_of_ble_eq_true rfl) (Nat.zero_le _) (Nat.zero_le _) dX6_held_23) (fun x5 H locs hS h => ?_)
      refine lv_if_ne (tgt := 31) hx hb dX6_held_26 (by decide) (fun c6 => ?_) (fun c6 => ?_)
      · have h := if_f h c6
        refine lv_bipush (v := (8 : Int32)) hx hb dX6_held_31 (by decide) ?_
        refine lv_bipush (v := (10 : Int32)) hx hb dX6_held_33 (by decide) ?_
        refine lv_iload_n hx hb dX6_held_35 rfl (lv_at hl 1 rfl) ?_
        refine lv_imul hx hb dX6_held_36 ?_
        refine lv_iload_n hx hb dX6_held_37 rfl (lv_at hl 2 rfl) ?_
        refine lv_iadd hx hb dX6_held_38 ?_
        refine lv_imul hx hb dX6_held_39 ?_
        refine lv_iload_n hx hb dX6_held_40 rfl (lv_at hl 3 rfl) ?_
        refine lv_iadd hx hb dX6_held_41 ?_
        refine h_leti h (fun x7 h => ?_)
        refine lv_istore (lv' := [(5, .int x7), (0, .ref (ad 200)), (1, .int a1), (2, .int a2), (3, .int a3), (4, .int a4)]) hx hb dX6_held_42 hl (by decide) rfl (fun ls hl => ?_)
        refine lv_iload hx hb dX6_held_44 (lv_at hl 5 rfl) ?_
        refine lv_if_ne (tgt := 59) hx hb dX6_held_46 (by decide) (fun c8 => ?_) (fun c8 => ?_)
        · have h := if_f h c8
          refine lv_aload_n hx hb dX6_held_59 rfl (lv_at hl 1 rfl) ?_
          refine h_getC (n := 11) (j := 211) (sh := (1, 720)) Z hS cls_14 hi0 (by decide) rfl rfl rfl fl_X6_34_14 dX6_held_60 (fun hc11 => ?_)
          refine lv_iload hx hb dX6_held_63 (lv_at hl 0 rfl) ?_
          refine h_iald Z hS hc11 dX6_held_65 h (fun x12 h => ?_)
          exact h_iret Z hS dX6_held_66 h
        · have h := if_t h c8
          refine lv_aload_n hx hb dX6_held_49 rfl (lv_at hl 1 rfl) ?_
          refine h_getC (n := 10) (j := 210) (sh := (1, 720)) Z hS cls_14 hi0 (by decide) rfl rfl rfl fl_X6_31_14 dX6_held_50 (fun hc9 => ?_)
          refine lv_iload hx hb dX6_held_53 (lv_at hl 0 rfl) ?_
          refine h_iald Z hS hc9 dX6_held_55 h (fun x10 h => ?_)
          refine lv_goto (tgt := 66) hx hb dX6_held_56 (by decide) ?_
          exact h_iret Z hS dX6_held_66 h
      · have h := if_t h c6
        refine lv_iconst (v := (-1 : Int32)) hx hb dX6_held_29 (by decide) ?_
        exact h_iret Z hS dX6_held_30 h
end
theorem dX6_told_0 : decode cX6_told 0 = .ok (.aload_n 0, 1) := by decide +kernel
theorem dX6_told_1 : decode cX6_told 1 = .ok (.iload_n 1, 1) := by decide +kernel
theorem dX6_told_2 : decode cX6_told 2 = .ok (.invokevirtual 168, 3) := by decide +kernel
theorem dX6_told_5 : decode cX6_told 5 = .ok (.ifCond .ne 5, 3) := by decide +kernel
theorem dX6_told_8 : decode cX6_told 8 = .ok (.iconst (-1), 1) := by decide +kernel
theorem dX6_told_9 : decode cX6_told 9 = .ok (.ireturn, 1) := by decide +kernel
theorem dX6_told_10 : decode cX6_told 10 = .ok (.iload_n 2, 1) := by decide +kernel
theorem dX6_told_11 : decode cX6_told 11 = .ok (.tableswitch 110 0 8 #[49, 56, 63, 70, 76, 82, 89, 96, 103], 49) := by decide +kernel
theorem dX6_told_60 : decode cX6_told 60 = .ok (.aload_n 0, 1) := by decide +kernel
theorem dX6_told_61 : decode cX6_told 61 = .ok (.getfield 49, 3) := by decide +kernel
theorem dX6_told_64 : decode cX6_told 64 = .ok (.iload_n 1, 1) := by decide +kernel
theorem dX6_told_65 : decode cX6_told 65 = .ok (.iaload, 1) := by decide +kernel
theorem dX6_told_66 : decode cX6_told 66 = .ok (.ireturn, 1) := by decide +kernel
theorem dX6_told_67 : decode cX6_told 67 = .ok (.aload_n 0, 1) := by decide +kernel
theorem dX6_told_68 : decode cX6_told 68 = .ok (.getfield 52, 3) := by decide +kernel
theorem dX6_told_71 : decode cX6_told 71 = .ok (.iload_n 1, 1) := by decide +kernel
theorem dX6_told_72 : decode cX6_told 72 = .ok (.iaload, 1) := by decide +kernel
theorem dX6_told_73 : decode cX6_told 73 = .ok (.ireturn, 1) := by decide +kernel
theorem dX6_told_74 : decode cX6_told 74 = .ok (.aload_n 0, 1) := by decide +kernel
theorem dX6_told_75 : decode cX6_told 75 = .ok (.getfield 55, 3) := by decide +kernel
theorem dX6_told_78 : decode cX6_told 78 = .ok (.iload_n 1, 1) := by decide +kernel
theorem dX6_told_79 : decode cX6_told 79 = .ok (.iaload, 1) := by decide +kernel
theorem dX6_told_80 : decode cX6_told 80 = .ok (.ireturn, 1) := by decide +kernel
theorem dX6_told_81 : decode cX6_told 81 = .ok (.aload_n 0, 1) := by decide +kernel
theorem dX6_told_82 : decode cX6_told 82 = .ok (.iload_n 1, 1) := by decide +kernel
theorem dX6_told_83 : decode cX6_told 83 = .ok (.invokevirtual 195, 3) := by decide +kernel
theorem dX6_told_86 : decode cX6_told 86 = .ok (.ireturn, 1) := by decide +kernel
theorem dX6_told_87 : decode cX6_told 87 = .ok (.aload_n 0, 1) := by decide +kernel
theorem dX6_told_88 : decode cX6_told 88 = .ok (.iload_n 1, 1) := by decide +kernel
theorem dX6_told_89 : decode cX6_told 89 = .ok (.invokevirtual 192, 3) := by decide +kernel
theorem dX6_told_92 : decode cX6_told 92 = .ok (.ireturn, 1) := by decide +kernel
theorem dX6_told_93 : decode cX6_told 93 = .ok (.aload_n 0, 1) := by decide +kernel
theorem dX6_told_94 : decode cX6_told 94 = .ok (.getfield 19, 3) := by decide +kernel
theorem dX6_told_97 : decode cX6_told 97 = .ok (.iload_n 1, 1) := by decide +kernel
theorem dX6_told_98 : decode cX6_told 98 = .ok (.iaload, 1) := by decide +kernel
theorem dX6_told_99 : decode cX6_told 99 = .ok (.ireturn, 1) := by decide +kernel
theorem dX6_told_100 : decode cX6_told 100 = .ok (.aload_n 0, 1) := by decide +kernel
theorem dX6_told_101 : decode cX6_told 101 = .ok (.getfield 61, 3) := by decide +kernel
theorem dX6_told_104 : decode cX6_told 104 = .ok (.iload_n 1, 1) := by decide +kernel
theorem dX6_told_105 : decode cX6_told 105 = .ok (.iaload, 1) := by decide +kernel
theorem dX6_told_106 : decode cX6_told 106 = .ok (.ireturn, 1) := by decide +kernel
theorem dX6_told_107 : decode cX6_told 107 = .ok (.aload_n 0, 1) := by decide +kernel
theorem dX6_told_108 : decode cX6_told 108 = .ok (.getfield 64, 3) := by decide +kernel
theorem dX6_told_111 : decode cX6_told 111 = .ok (.iload_n 1, 1) := by decide +kernel
theorem dX6_told_112 : decode cX6_told 112 = .ok (.iaload, 1) := by decide +kernel
theorem dX6_told_113 : decode cX6_told 113 = .ok (.ireturn, 1) := by decide +kernel
theorem dX6_told_114 : decode cX6_told 114 = .ok (.aload_n 0, 1) := by decide +kernel
theorem dX6_told_115 : decode cX6_told 115 = .ok (.getfield 67, 3) := by decide +kernel
theorem dX6_told_118 : decode cX6_told 118 = .ok (.iload_n 1, 1) := by decide +kernel
theorem dX6_told_119 : decode cX6_told 119 = .ok (.iaload, 1) := by decide +kernel
theorem dX6_told_120 : decode cX6_told 120 = .ok (.ireturn, 1) := by decide +kernel
theorem dX6_told_121 : decode cX6_told 121 = .ok (.iconst (-1), 1) := by decide +kernel
theorem dX6_told_122 : decode cX6_told 122 = .ok (.ireturn, 1) := by decide +kernel
abbrev rm_X6_told : Room := k2_rm 4 81
section
variable {p : Program} {l : Launch} {e : Env} {s : State} {m : MethodId} {args : Array Value} {below : List Frame} {meth : Method} {c : Code} {D : gD} {A : Nat → Prop} {ad : Nat → Nat} {S : Nat → Nat × Nat} {σ : Mem}
set_option maxRecDepth 100000 in
set_option maxHeartbeats 4000000 in
theorem w_X6_told {a1 : Int32} {a2 : Int32} (hi0 : S 200 = (24, 0)) {r : Int32} (h : f_X6_told σ a1 a2 = some r) : Met l yX6_told (ws_ yX6_told cX6_told 3 (some .int)) rm_X6_told (va_Pc [.ref (ad 200), .int a1, .int a2] (PreG D (Ew D A) A ad S σ)) (QG D A ad S (some (.int r)) σ) 0 0 A := by
  refine y_met (by decide) (Nat.le_of_ble_eq_true rfl) (fun p e s m below meth c ls Z hS hl => ?_)
  have hx := Z.1
  have hb := Z.2.1
  have hown := Z.2.2.2.2.2.1
  have hts := Z.2.2.2.2.2.2.1
  unfold f_X6_told at h
  refine lv_aload_n hx hb dX6_told_0 rfl (lv_at hl 0 rfl) ?_
  refine lv_iload_n hx hb dX6_told_1 rfl (lv_at hl 1 rfl) ?_
  refine h_ci hS h (fun z hz => h_rV (rest := []) Z hS hi0 rfl v_X6_168 (w_X6_isFilter hi0 hz) rfl rfl ⟨by decide, by decide⟩ rfl hl.1 rfl (Nat.le_of_ble_eq_true rfl) (Nat.zero_le _) (Nat.zero_le _) dX6_told_2) (fun x1 H locs hS h => ?_)
  refine lv_if_ne (tgt := 10) hx hb dX6_told_5 (by decide) (fun c2 => ?_) (fun c2 => ?_)
  · have h := if_f h c2
    refine lv_iload_n hx hb dX6_told_10 rfl (lv_at hl 2 rfl) ?_
    by_cases c3_0 : a2 = (0 : Int32)
    · refine h_tsw (k := (0 : Int32)) (off := 49) (tgt := 60) Z dX6_told_11 c3_0 (by decide) (by decide) rfl (by decide) ?_
      have h := if_t h c3_0
      refine lv_aload_n hx hb dX6_told_60 rfl (lv_at hl 0 rfl) ?_
      refine h_getC (n := 16) (j := 216) (sh := (1, 9)) Z hS cls_14 hi0 (by decide) rfl rfl rfl fl_X6_49_14 dX6_told_61 (fun hc4 => ?_)
      refine lv_iload_n hx hb dX6_told_64 rfl (lv_at hl 1 rfl) ?_
      refine h_iald Z hS hc4 dX6_told_65 h (fun x5 h => ?_)
      exact h_iret Z hS dX6_told_66 h
    replace h := if_f h c3_0
    by_cases c3_1 : a2 = (1 : Int32)
    · refine h_tsw (k := (1 : Int32)) (off := 56) (tgt := 67) Z dX6_told_11 c3_1 (by decide) (by decide) rfl (by decide) ?_
      have h := if_t h c3_1
      refine lv_aload_n hx hb dX6_told_67 rfl (lv_at hl 0 rfl) ?_
      refine h_getC (n := 17) (j := 217) (sh := (1, 9)) Z hS cls_14 hi0 (by decide) rfl rfl rfl fl_X6_52_14 dX6_told_68 (fun hc6 => ?_)
      refine lv_iload_n hx hb dX6_told_71 rfl (lv_at hl 1 rfl) ?_
      refine h_iald Z hS hc6 dX6_told_72 h (fun x7 h => ?_)
      exact h_iret Z hS dX6_told_73 h
    replace h := if_f h c3_1
    by_cases c3_2 : a2 = (2 : Int32)
    · refine h_tsw (k := (2 : Int32)) (off := 63) (tgt := 74) Z dX6_told_11 c3_2 (by decide) (by decide) rfl (by decide) ?_
      have h := if_t h c3_2
      refine lv_aload_n hx hb dX6_told_74 rfl (lv_at hl 0 rfl) ?_
      refine h_getC (n := 18) (j := 218) (sh := (1, 9)) Z hS cls_14 hi0 (by decide) rfl rfl rfl fl_X6_55_14 dX6_told_75 (fun hc8 => ?_)
      refine lv_iload_n hx hb dX6_told_78 rfl (lv_at hl 1 rfl) ?_
      refine h_iald Z hS hc8 dX6_told_79 h (fun x9 h => ?_)
      exact h_iret Z hS dX6_told_80 h
    replace h := if_f h c3_2
    by_cases c3_3 : a2 = (3 : Int32)
    · refine h_tsw (k := (3 : Int32)) (off := 70) (tgt := 81) Z dX6_told_11 c3_3 (by decide) (by decide) rfl (by decide) ?_
      have h := if_t h c3_3
      refine lv_aload_n hx hb dX6_told_81 rfl (lv_at hl 0 rfl) ?_
      refine lv_iload_n hx hb dX6_told_82 rfl (lv_at hl 1 rfl) ?_
      refine h_ci hS h (fun z hz => h_rV (rest := []) Z hS hi0 rfl v_X6_195 (w_X6_cakeOf hi0 hz) rfl rfl ⟨by decide, by decide⟩ rfl hl.1 rfl (Nat.le_of_ble_eq_true rfl) (Nat.zero_le _) (Nat.zero_le _) dX6_told_83) (fun x10 H locs hS h => ?_)
      exact h_iret Z hS dX6_told_86 h
    replace h := if_f h c3_3
    by_cases c3_4 : a2 = (4 : Int32)
    · refine h_tsw (k := (4 : Int32)) (off := 76) (tgt := 87) Z dX6_told_11 c3_4 (by decide) (by decide) rfl (by decide) ?_
      have h := if_t h c3_4
      refine lv_aload_n hx hb dX6_told_87 rfl (lv_at hl 0 rfl) ?_
      refine lv_iload_n hx hb dX6_told_88 rfl (lv_at hl 1 rfl) ?_
      refine h_ci hS h (fun z hz => h_rV (rest := []) Z hS hi0 rfl v_X6_192 (w_X6_bed hi0 hz) rfl rfl ⟨by decide, by decide⟩ rfl hl.1 rfl (Nat.le_of_ble_eq_true rfl) (Nat.zero_le _) (Nat.zero_le _) dX6_told_89) (fun x11 H locs hS h => ?_)
      exact h_iret Z hS dX6_told_92 h
    replace h := if_f h c3_4
    by_cases c3_5 : a2 = (5 : Int32)
    · refine h_tsw (k := (5 : Int32)) (off := 82) (tgt := 93) Z dX6_told_11 c3_5 (by decide) (by decide) rfl (by decide) ?_
      have h := if_t h c3_5
      refine lv_aload_n hx hb dX6_told_93 rfl (lv_at hl 0 rfl) ?_
      refine h_getC (n := 6) (j := 206) (sh := (1, 9)) Z hS cls_14 hi0 (by decide) rfl rfl rfl fl_X6_19_14 dX6_told_94 (fun hc12 => ?_)
      refine lv_iload_n hx hb dX6_told_97 rfl (lv_at hl 1 rfl) ?_
      refine h_iald Z hS hc12 dX6_told_98 h (fun x13 h => ?_)
      exact h_iret Z hS dX6_told_99 h
    replace h := if_f h c3_5
    by_cases c3_6 : a2 = (6 : Int32)
    · refine h_tsw (k := (6 : Int32)) (off := 89) (tgt := 100) Z dX6_told_11 c3_6 (by decide) (by decide) rfl (by decide) ?_
      have h := if_t h c3_6
      refine lv_aload_n hx hb dX6_told_100 rfl (lv_at hl 0 rfl) ?_
      refine h_getC (n := 20) (j := 220) (sh := (1, 9)) Z hS cls_14 hi0 (by decide) rfl rfl rfl fl_X6_61_14 dX6_told_101 (fun hc14 => ?_)
      refine lv_iload_n hx hb dX6_told_104 rfl (lv_at hl 1 rfl) ?_
      refine h_iald Z hS hc14 dX6_told_105 h (fun x15 h => ?_)
      exact h_iret Z hS dX6_told_106 h
    replace h := if_f h c3_6
    by_cases c3_7 : a2 = (7 : Int32)
    · refine h_tsw (k := (7 : Int32)) (off := 96) (tgt := 107) Z dX6_told_11 c3_7 (by decide) (by decide) rfl (by decide) ?_
      have h := if_t h c3_7
      refine lv_aload_n hx hb dX6_told_107 rfl (lv_at hl 0 rfl) ?_
      refine h_getC (n := 21) (j := 221) (sh := (1, 9)) Z hS cls_14 hi0 (by decide) rfl rfl rfl fl_X6_64_14 dX6_told_108 (fun hc16 => ?_)
      refine lv_iload_n hx hb dX6_told_111 rfl (lv_at hl 1 rfl) ?_
      refine h_iald Z hS hc16 dX6_told_112 h (fun x17 h => ?_)
      exact h_iret Z hS dX6_told_113 h
    replace h := if_f h c3_7
    by_cases c3_8 : a2 = (8 : Int32)
    · refine h_tsw (k := (8 : Int32)) (off := 103) (tgt := 114) Z dX6_told_11 c3_8 (by decide) (by decide) rfl (by decide) ?_
      have h := if_t h c3_8
      refine lv_aload_n hx hb dX6_told_114 rfl (lv_at hl 0 rfl) ?_
      refine h_getC (n := 22) (j := 222) (sh := (1, 9)) Z hS cls_14 hi0 (by decide) rfl rfl rfl fl_X6_67_14 dX6_told_115 (fun hc18 => ?_)
      refine lv_iload_n hx hb dX6_told_118 rfl (lv_at hl 1 rfl) ?_
      refine h_iald Z hS hc18 dX6_told_119 h (fun x19 h => ?_)
      exact h_iret Z hS dX6_told_120 h
    replace h := if_f h c3_8
    refine h_tswd (n := 8) (tgt := 121) Z dX6_told_11 (by decide) (fun t ht => ?_) (by decide) ?_
    · rcases (show t = 0 ∨ t = 1 ∨ t = 2 ∨ t = 3 ∨ t = 4 ∨ t = 5 ∨ t = 6 ∨ t = 7 ∨ t = 8 by omega) with rfl | rfl | rfl | rfl | rfl | rfl | rfl | rfl | rfl
      · exact Or.inr (ne_int c3_0 (by decide))
      · exact Or.inr (ne_int c3_1 (by decide))
      · exact Or.inr (ne_int c3_2 (by decide))
      · exact Or.inr (ne_int c3_3 (by decide))
      · exact Or.inr (ne_int c3_4 (by decide))
      · exact Or.inr (ne_int c3_5 (by decide))
      · exact Or.inr (ne_int c3_6 (by decide))
      · exact Or.inr (ne_int c3_7 (by decide))
      · exact Or.inr (ne_int c3_8 (by decide))
    refine lv_iconst (v := (-1 : Int32)) hx hb dX6_told_121 (by decide) ?_
    exact h_iret Z hS dX6_told_122 h
  · have h := if_t h c2
    refine lv_iconst (v := (-1 : Int32)) hx hb dX6_told_8 (by decide) ?_
    exact h_iret Z hS dX6_told_9 h
end
theorem dX6_byteOf_0 : decode cX6_byteOf 0 = .ok (.iload 5, 2) := by decide +kernel
theorem dX6_byteOf_2 : decode cX6_byteOf 2 = .ok (.iconst 4, 1) := by decide +kernel
theorem dX6_byteOf_3 : decode cX6_byteOf 3 = .ok (.if_icmp .ge 7, 3) := by decide +kernel
theorem dX6_byteOf_6 : decode cX6_byteOf 6 = .ok (.iload_n 0, 1) := by decide +kernel
theorem dX6_byteOf_7 : decode cX6_byteOf 7 = .ok (.goto 38, 3) := by decide +kernel
theorem dX6_byteOf_10 : decode cX6_byteOf 10 = .ok (.iload 5, 2) := by decide +kernel
theorem dX6_byteOf_12 : decode cX6_byteOf 12 = .ok (.bipush 8, 2) := by decide +kernel
theorem dX6_byteOf_14 : decode cX6_byteOf 14 = .ok (.if_icmp .ge 7, 3) := by decide +kernel
theorem dX6_byteOf_17 : decode cX6_byteOf 17 = .ok (.iload_n 1, 1) := by decide +kernel
theorem dX6_byteOf_18 : decode cX6_byteOf 18 = .ok (.goto 27, 3) := by decide +kernel
theorem dX6_byteOf_21 : decode cX6_byteOf 21 = .ok (.iload 5, 2) := by decide +kernel
theorem dX6_byteOf_23 : decode cX6_byteOf 23 = .ok (.bipush 12, 2) := by decide +kernel
theorem dX6_byteOf_25 : decode cX6_byteOf 25 = .ok (.if_icmp .ge 7, 3) := by decide +kernel
theorem dX6_byteOf_28 : decode cX6_byteOf 28 = .ok (.iload_n 2, 1) := by decide +kernel
theorem dX6_byteOf_29 : decode cX6_byteOf 29 = .ok (.goto 16, 3) := by decide +kernel
theorem dX6_byteOf_32 : decode cX6_byteOf 32 = .ok (.iload 5, 2) := by decide +kernel
theorem dX6_byteOf_34 : decode cX6_byteOf 34 = .ok (.bipush 16, 2) := by decide +kernel
theorem dX6_byteOf_36 : decode cX6_byteOf 36 = .ok (.if_icmp .ge 7, 3) := by decide +kernel
theorem dX6_byteOf_39 : decode cX6_byteOf 39 = .ok (.iload_n 3, 1) := by decide +kernel
theorem dX6_byteOf_40 : decode cX6_byteOf 40 = .ok (.goto 5, 3) := by decide +kernel
theorem dX6_byteOf_43 : decode cX6_byteOf 43 = .ok (.iload 4, 2) := by decide +kernel
theorem dX6_byteOf_45 : decode cX6_byteOf 45 = .ok (.istore 6, 2) := by decide +kernel
theorem dX6_byteOf_47 : decode cX6_byteOf 47 = .ok (.iload 6, 2) := by decide +kernel
theorem dX6_byteOf_49 : decode cX6_byteOf 49 = .ok (.bipush 24, 2) := by decide +kernel
theorem dX6_byteOf_51 : decode cX6_byteOf 51 = .ok (.bipush 8, 2) := by decide +kernel
theorem dX6_byteOf_53 : decode cX6_byteOf 53 = .ok (.iload 5, 2) := by decide +kernel
theorem dX6_byteOf_55 : decode cX6_byteOf 55 = .ok (.iconst 4, 1) := by decide +kernel
theorem dX6_byteOf_56 : decode cX6_byteOf 56 = .ok (.irem, 1) := by decide +kernel
theorem dX6_byteOf_57 : decode cX6_byteOf 57 = .ok (.imul, 1) := by decide +kernel
theorem dX6_byteOf_58 : decode cX6_byteOf 58 = .ok (.isub, 1) := by decide +kernel
theorem dX6_byteOf_59 : decode cX6_byteOf 59 = .ok (.ishr, 1) := by decide +kernel
theorem dX6_byteOf_60 : decode cX6_byteOf 60 = .ok (.sipush 255, 3) := by decide +kernel
theorem dX6_byteOf_63 : decode cX6_byteOf 63 = .ok (.iand, 1) := by decide +kernel
theorem dX6_byteOf_64 : decode cX6_byteOf 64 = .ok (.ireturn, 1) := by decide +kernel
abbrev rm_X6_byteOf : Room := k2_rm 0 0
section
variable {p : Program} {l : Launch} {e : Env} {s : State} {m : MethodId} {args : Array Value} {below : List Frame} {meth : Method} {c : Code} {D : gD} {A : Nat → Prop} {ad : Nat → Nat} {S : Nat → Nat × Nat} {σ : Mem}
set_option maxRecDepth 100000 in
set_option maxHeartbeats 4000000 in
theorem w_X6_byteOf {a1 : Int32} {a2 : Int32} {a3 : Int32} {a4 : Int32} {a5 : Int32} {a6 : Int32} {r : Int32} (h : f_X6_byteOf σ a1 a2 a3 a4 a5 a6 = some r) : Met l yX6_byteOf (ws_ yX6_byteOf cX6_byteOf 7 (some .int)) rm_X6_byteOf (va_Pc [.int a1, .int a2, .int a3, .int a4, .int a5, .int a6] (PreG D (Ew D A) A ad S σ)) (QG D A ad S (some (.int r)) σ) 0 0 A := by
  refine y_met (by decide) (Nat.le_of_ble_eq_true rfl) (fun p e s m below meth c ls Z hS hl => ?_)
  have hx := Z.1
  have hb := Z.2.1
  have hown := Z.2.2.2.2.2.1
  have hts := Z.2.2.2.2.2.2.1
  unfold f_X6_byteOf at h
  refine lv_iload hx hb dX6_byteOf_0 (lv_at hl 5 rfl) ?_
  refine lv_iconst (v := (4 : Int32)) hx hb dX6_byteOf_2 (by decide) ?_
  obtain ⟨x2, hp3, h⟩ := bnd_el h
  have K3 : ∀ (H : Heap) (locs : List Loc) (ls : Array Slot), St D A ad S σ s.heap H locs → lv_has ls 7 [(5, .int a6)] → W p l e rm_X6_byteOf s m ([.int a1, .int a2, .int a3, .int a4, .int a5, .int a6] : List Value).toArray below meth c H locs 0 0 (MQ below (QG D A ad S (some (.int r)) σ) ([.int a1, .int a2, .int a3, .int a4, .int a5, .int a6] : List Value).toArray s 0 0 A) (F0 m 45 ls [.int x2]) := by
    intro H locs ls hS hl
    refine lv_istore (lv' := [(6, .int x2), (5, .int a6)]) hx hb dX6_byteOf_45 hl (by decide) rfl (fun ls hl => ?_)
    refine lv_iload hx hb dX6_byteOf_47 (lv_at hl 0 rfl) ?_
    refine lv_bipush (v := (24 : Int32)) hx hb dX6_byteOf_49 (by decide) ?_
    refine lv_bipush (v := (8 : Int32)) hx hb dX6_byteOf_51 (by decide) ?_
    refine lv_iload hx hb dX6_byteOf_53 (lv_at hl 1 rfl) ?_
    refine lv_iconst (v := (4 : Int32)) hx hb dX6_byteOf_55 (by decide) ?_
    refine h_irem Z dX6_byteOf_56 h (fun h => ?_)
    refine lv_imul hx hb dX6_byteOf_57 ?_
    refine lv_isub hx hb dX6_byteOf_58 ?_
    refine lv_ishr hx hb dX6_byteOf_59 ?_
    refine lv_sipush (v := (255 : Int32)) hx hb dX6_byteOf_60 (by decide) ?_
    refine lv_iand hx hb dX6_byteOf_63 ?_
    exact h_iret Z hS dX6_byteOf_64 h
  clear h
  have h := hp3
  clear hp3
  refine lv_icmp_ge (tgt := 10) hx hb dX6_byteOf_3 (by decide) (fun c1 => ?_) (fun c1 => ?_)
  · have h := if_t h c1
    refine lv_iload hx hb dX6_byteOf_10 (lv_at hl 5 rfl) ?_
    refine lv_bipush (v := (8 : Int32)) hx hb dX6_byteOf_12 (by decide) ?_
    refine lv_icmp_ge (tgt := 21) hx hb dX6_byteOf_14 (by decide) (fun c4 => ?_) (fun c4 => ?_)
    · have h := if_t h c4
      refine lv_iload hx hb dX6_byteOf_21 (lv_at hl 5 rfl) ?_
      refine lv_bipush (v := (12 : Int32)) hx hb dX6_byteOf_23 (by decide) ?_
      refine lv_icmp_ge (tgt := 32) hx hb dX6_byteOf_25 (by decide) (fun c5 => ?_) (fun c5 => ?_)
      · have h := if_t h c5
        refine lv_iload hx hb dX6_byteOf_32 (lv_at hl 5 rfl) ?_
        refine lv_bipush (v := (16 : Int32)) hx hb dX6_byteOf_34 (by decide) ?_
        refine lv_icmp_ge (tgt := 43) hx hb dX6_byteOf_36 (by decide) (fun c6 => ?_) (fun c6 => ?_)
        · have h := if_t h c6
          refine lv_iload hx hb dX6_byteOf_43 (lv_at hl 4 rfl) ?_
          cases h
          exact K3 _ _ _ hS (lv_sub hl [5] rfl)
        · have h := if_f h c6
          refine lv_iload_n hx hb dX6_byteOf_39 rfl (lv_at hl 3 rfl) ?_
          refine lv_goto (tgt := 45) hx hb dX6_byteOf_40 (by decide) ?_
          cases h
          exact K3 _ _ _ hS (lv_sub hl [5] rfl)
      · have h := if_f h c5
        refine lv_iload_n hx hb dX6_byteOf_28 rfl (lv_at hl 2 rfl) ?_
        refine lv_goto (tgt := 45) hx hb dX6_byteOf_29 (by decide) ?_
        cases h
        exact K3 _ _ _ hS (lv_sub hl [5] rfl)
    · have h := if_f h c4
      refine lv_iload_n hx hb dX6_byteOf_17 rfl (lv_at hl 1 rfl) ?_
      refine lv_goto (tgt := 45) hx hb dX6_byteOf_18 (by decide) ?_
      cases h
      exact K3 _ _ _ hS (lv_sub hl [5] rfl)
  · have h := if_f h c1
    refine lv_iload_n hx hb dX6_byteOf_6 rfl (lv_at hl 0 rfl) ?_
    refine lv_goto (tgt := 45) hx hb dX6_byteOf_7 (by decide) ?_
    cases h
    exact K3 _ _ _ hS (lv_sub hl [5] rfl)
end
theorem dX6_feed_0 : decode cX6_feed 0 = .ok (.iconst 0, 1) := by decide +kernel
theorem dX6_feed_1 : decode cX6_feed 1 = .ok (.istore 6, 2) := by decide +kernel
theorem dX6_feed_3 : decode cX6_feed 3 = .ok (.iconst 0, 1) := by decide +kernel
theorem dX6_feed_4 : decode cX6_feed 4 = .ok (.istore 7, 2) := by decide +kernel
theorem dX6_feed_6 : decode cX6_feed 6 = .ok (.iload 7, 2) := by decide +kernel
theorem dX6_feed_8 : decode cX6_feed 8 = .ok (.bipush 20, 2) := by decide +kernel
theorem dX6_feed_10 : decode cX6_feed 10 = .ok (.if_icmp .ge 34, 3) := by decide +kernel
theorem dX6_feed_13 : decode cX6_feed 13 = .ok (.iload 6, 2) := by decide +kernel
theorem dX6_feed_15 : decode cX6_feed 15 = .ok (.iload_n 1, 1) := by decide +kernel
theorem dX6_feed_16 : decode cX6_feed 16 = .ok (.iload_n 2, 1) := by decide +kernel
theorem dX6_feed_17 : decode cX6_feed 17 = .ok (.iload_n 3, 1) := by decide +kernel
theorem dX6_feed_18 : decode cX6_feed 18 = .ok (.iload 4, 2) := by decide +kernel
theorem dX6_feed_20 : decode cX6_feed 20 = .ok (.iload 5, 2) := by decide +kernel
theorem dX6_feed_22 : decode cX6_feed 22 = .ok (.iload 7, 2) := by decide +kernel
theorem dX6_feed_24 : decode cX6_feed 24 = .ok (.invokestatic 213, 3) := by decide +kernel
theorem dX6_feed_27 : decode cX6_feed 27 = .ok (.ifCond .eq 7, 3) := by decide +kernel
theorem dX6_feed_30 : decode cX6_feed 30 = .ok (.iconst 1, 1) := by decide +kernel
theorem dX6_feed_31 : decode cX6_feed 31 = .ok (.goto 4, 3) := by decide +kernel
theorem dX6_feed_34 : decode cX6_feed 34 = .ok (.iconst 0, 1) := by decide +kernel
theorem dX6_feed_35 : decode cX6_feed 35 = .ok (.iadd, 1) := by decide +kernel
theorem dX6_feed_36 : decode cX6_feed 36 = .ok (.istore 6, 2) := by decide +kernel
theorem dX6_feed_38 : decode cX6_feed 38 = .ok (.iinc 7 1, 3) := by decide +kernel
theorem dX6_feed_41 : decode cX6_feed 41 = .ok (.goto (-35), 3) := by decide +kernel
theorem dX6_feed_44 : decode cX6_feed 44 = .ok (.aload_n 0, 1) := by decide +kernel
theorem dX6_feed_45 : decode cX6_feed 45 = .ok (.getfield 217, 3) := by decide +kernel
theorem dX6_feed_48 : decode cX6_feed 48 = .ok (.iload 6, 2) := by decide +kernel
theorem dX6_feed_50 : decode cX6_feed 50 = .ok (.iadd, 1) := by decide +kernel
theorem dX6_feed_51 : decode cX6_feed 51 = .ok (.sipush 160, 3) := by decide +kernel
theorem dX6_feed_54 : decode cX6_feed 54 = .ok (.if_icmp .le 5, 3) := by decide +kernel
theorem dX6_feed_57 : decode cX6_feed 57 = .ok (.iconst (-1), 1) := by decide +kernel
theorem dX6_feed_58 : decode cX6_feed 58 = .ok (.ireturn, 1) := by decide +kernel
theorem dX6_feed_59 : decode cX6_feed 59 = .ok (.iconst 0, 1) := by decide +kernel
theorem dX6_feed_60 : decode cX6_feed 60 = .ok (.istore 7, 2) := by decide +kernel
theorem dX6_feed_62 : decode cX6_feed 62 = .ok (.iload 7, 2) := by decide +kernel
theorem dX6_feed_64 : decode cX6_feed 64 = .ok (.bipush 20, 2) := by decide +kernel
theorem dX6_feed_66 : decode cX6_feed 66 = .ok (.if_icmp .ge 49, 3) := by decide +kernel
theorem dX6_feed_69 : decode cX6_feed 69 = .ok (.iload_n 1, 1) := by decide +kernel
theorem dX6_feed_70 : decode cX6_feed 70 = .ok (.iload_n 2, 1) := by decide +kernel
theorem dX6_feed_71 : decode cX6_feed 71 = .ok (.iload_n 3, 1) := by decide +kernel
theorem dX6_feed_72 : decode cX6_feed 72 = .ok (.iload 4, 2) := by decide +kernel
theorem dX6_feed_74 : decode cX6_feed 74 = .ok (.iload 5, 2) := by decide +kernel
theorem dX6_feed_76 : decode cX6_feed 76 = .ok (.iload 7, 2) := by decide +kernel
theorem dX6_feed_78 : decode cX6_feed 78 = .ok (.invokestatic 213, 3) := by decide +kernel
theorem dX6_feed_81 : decode cX6_feed 81 = .ok (.istore 8, 2) := by decide +kernel
theorem dX6_feed_83 : decode cX6_feed 83 = .ok (.iload 8, 2) := by decide +kernel
theorem dX6_feed_85 : decode cX6_feed 85 = .ok (.ifCond .eq 24, 3) := by decide +kernel
theorem dX6_feed_88 : decode cX6_feed 88 = .ok (.aload_n 0, 1) := by decide +kernel
theorem dX6_feed_89 : decode cX6_feed 89 = .ok (.getfield 77, 3) := by decide +kernel
theorem dX6_feed_92 : decode cX6_feed 92 = .ok (.aload_n 0, 1) := by decide +kernel
theorem dX6_feed_93 : decode cX6_feed 93 = .ok (.getfield 217, 3) := by decide +kernel
theorem dX6_feed_96 : decode cX6_feed 96 = .ok (.iload 8, 2) := by decide +kernel
theorem dX6_feed_98 : decode cX6_feed 98 = .ok (.iastore, 1) := by decide +kernel
theorem dX6_feed_99 : decode cX6_feed 99 = .ok (.aload_n 0, 1) := by decide +kernel
theorem dX6_feed_100 : decode cX6_feed 100 = .ok (.dup, 1) := by decide +kernel
theorem dX6_feed_101 : decode cX6_feed 101 = .ok (.getfield 217, 3) := by decide +kernel
theorem dX6_feed_104 : decode cX6_feed 104 = .ok (.iconst 1, 1) := by decide +kernel
theorem dX6_feed_105 : decode cX6_feed 105 = .ok (.iadd, 1) := by decide +kernel
theorem dX6_feed_106 : decode cX6_feed 106 = .ok (.putfield 217, 3) := by decide +kernel
theorem dX6_feed_109 : decode cX6_feed 109 = .ok (.iinc 7 1, 3) := by decide +kernel
theorem dX6_feed_112 : decode cX6_feed 112 = .ok (.goto (-50), 3) := by decide +kernel
theorem dX6_feed_115 : decode cX6_feed 115 = .ok (.aload_n 0, 1) := by decide +kernel
theorem dX6_feed_116 : decode cX6_feed 116 = .ok (.getfield 217, 3) := by decide +kernel
theorem dX6_feed_119 : decode cX6_feed 119 = .ok (.ireturn, 1) := by decide +kernel
abbrev rm_X6_feed : Room := k2_rm 1 26
section
variable {p : Program} {l : Launch} {e : Env} {s : State} {m : MethodId} {args : Array Value} {below : List Frame} {meth : Method} {c : Code} {D : gD} {A : Nat → Prop} {ad : Nat → Nat} {S : Nat → Nat × Nat} {σ : Mem}
set_option maxRecDepth 100000 in
set_option maxHeartbeats 4000000 in
theorem w_X6_feed_L6 (Z : Cz D (Ew D A) A cX6_feed 9 (some .int) RX6 p s m args meth c) {u1 : Int32} {u2 : Int32} {u3 : Int32} {u4 : Int32} {u5 : Int32} (hu0 : S 200 = (24, 0)) {r : (Mem × Int32)} {k44 : Int32 → Option (Mem × Int32)}
    (hk44 : ∀ (w6 : Int32) (H : Heap) (locs : List Loc) (ls : Array Slot), St D A ad S σ s.heap H locs → lv_has ls 9 [(0, .ref (ad 200)), (1, .int u1), (2, .int u2), (3, .int u3), (4, .int u4), (5, .int u5), (6, .int w6)] → k44 w6 = some r → W p l e rm_X6_feed s m args below meth c H locs 0 0 (MQ below (QG D A ad S (some (.int r.2)) r.1) args s 0 0 A) (F0 m 44 ls [])) :
    ∀ (n : Nat) (v6 : Int32) (v7 : Int32) (H : Heap) (locs : List Loc) (ls : Array Slot), St D A ad S σ s.heap H locs → lv_has ls 9 [(0, .ref (ad 200)), (1, .int u1), (2, .int u2), (3, .int u3), (4, .int u4), (5, .int u5), (6, .int v6), (7, .int v7)] → f_X6_feed_L6 k44 σ u1 u2 u3 u4 u5 n v6 v7 = some r → W p l e rm_X6_feed s m args below meth c H locs 0 0 (MQ below (QG D A ad S (some (.int r.2)) r.1) args s 0 0 A) (F0 m 6 ls []) := by
  have hx := Z.1
  have hb := Z.2.1
  have hown := Z.2.2.2.2.2.1
  have hts := Z.2.2.2.2.2.2.1
  intro n
  induction n with
  | zero => intro v6 v7 H locs ls hS hl h; cases h
  | succ n ih =>
    intro v6 v7 H locs ls hS hl h
    unfold f_X6_feed_L6 at h
    refine lv_iload hx hb dX6_feed_6 (lv_at hl 7 rfl) ?_
    refine lv_bipush (v := (20 : Int32)) hx hb dX6_feed_8 (by decide) ?_
    refine lv_icmp_ge (tgt := 44) hx hb dX6_feed_10 (by decide) (fun c1 => ?_) (fun c1 => ?_)
    · have h := if_t h c1
      exact hk44 _ _ _ _ hS (lv_sub hl [0, 1, 2, 3, 4, 5, 6] rfl) h
    · have h := if_f h c1
      refine lv_iload hx hb dX6_feed_13 (lv_at hl 6 rfl) ?_
      refine lv_iload_n hx hb dX6_feed_15 rfl (lv_at hl 1 rfl) ?_
      refine lv_iload_n hx hb dX6_feed_16 rfl (lv_at hl 2 rfl) ?_
      refine lv_iload_n hx hb dX6_feed_17 rfl (lv_at hl 3 rfl) ?_
      refine lv_iload hx hb dX6_feed_18 (lv_at hl 4 rfl) ?_
      refine lv_iload hx hb dX6_feed_20 (lv_at hl 5 rfl) ?_
      refine lv_iload hx hb dX6_feed_22 (lv_at hl 7 rfl) ?_
      refine h_ci hS h (fun z hz => h_rS (rest := [.int v6]) Z hS v_X6_213 (w_X6_byteOf hz) rfl rfl ⟨by decide, by decide⟩ rfl hl.1 rfl (Nat.le_of_ble_eq_true rfl) (Nat.zero_le _) (Nat.zero_le _) dX6_feed_24) (fun x2 H locs hS h => ?_)
      obtain ⟨x4, hp5, h⟩ := bnd_el h
      have K5 : ∀ (H : Heap) (locs : List Loc) (ls : Array Slot), St D A ad S σ s.heap H locs → lv_has ls 9 [(0, .ref (ad 200)), (1, .int u1), (2, .int u2), (3, .int u3), (4, .int u4), (5, .int u5), (7, .int v7)] → W p l e rm_X6_feed s m args below meth c H locs 0 0 (MQ below (QG D A ad S (some (.int r.2)) r.1) args s 0 0 A) (F0 m 35 ls [.int x4, .int v6]) := by
        intro H locs ls hS hl
        refine lv_iadd hx hb dX6_feed_35 ?_
        refine h_leti h (fun x6 h => ?_)
        refine lv_istore (lv' := [(6, .int x6), (0, .ref (ad 200)), (1, .int u1), (2, .int u2), (3, .int u3), (4, .int u4), (5, .int u5), (7, .int v7)]) hx hb dX6_feed_36 hl (by decide) rfl (fun ls hl => ?_)
        refine lv_iinc (v := (v7 + (1 : Int32))) (lv' := [(7, .int (v7 + (1 : Int32))), (6, .int x6), (0, .ref (ad 200)), (1, .int u1), (2, .int u2), (3, .int u3), (4, .int u4), (5, .int u5)]) hx hb dX6_feed_38 hl (k := 7) rfl rfl (by decide) rfl (fun ls hl => ?_)
        refine lv_goto (tgt := 6) hx hb dX6_feed_41 (by decide) ?_
        exact ih _ _ _ _ _ hS (lv_sub hl [2, 3, 4, 5, 6, 7, 1, 0] rfl) h
      clear h
      have h := hp5
      clear hp5
      refine lv_if_eq (tgt := 34) hx hb dX6_feed_27 (by decide) (fun c3 => ?_) (fun c3 => ?_)
      · have h := if_t h c3
        refine lv_iconst (v := (0 : Int32)) hx hb dX6_feed_34 (by decide) ?_
        cases h
        exact K5 _ _ _ hS (lv_sub hl [0, 1, 2, 3, 4, 5, 7] rfl)
      · have h := if_f h c3
        refine lv_iconst (v := (1 : Int32)) hx hb dX6_feed_30 (by decide) ?_
        refine lv_goto (tgt := 35) hx hb dX6_feed_31 (by decide) ?_
        cases h
        exact K5 _ _ _ hS (lv_sub hl [0, 1, 2, 3, 4, 5, 7] rfl)
set_option maxRecDepth 100000 in
set_option maxHeartbeats 4000000 in
theorem w_X6_feed_L62 (Z : Cz D (Ew D A) A cX6_feed 9 (some .int) RX6 p s m args meth c) {u1 : Int32} {u2 : Int32} {u3 : Int32} {u4 : Int32} {u5 : Int32} (hu0 : S 200 = (24, 0)) {r : (Mem × Int32)} {k115 : Mem → Option (Mem × Int32)}
    (hk115 : ∀ (σ : Mem)  (H : Heap) (locs : List Loc) (ls : Array Slot), St D A ad S σ s.heap H locs → lv_has ls 9 [(0, .ref (ad 200))] → k115 σ = some r → W p l e rm_X6_feed s m args below meth c H locs 0 0 (MQ below (QG D A ad S (some (.int r.2)) r.1) args s 0 0 A) (F0 m 115 ls [])) :
    ∀ (n : Nat) (σ : Mem) (v7 : Int32) (H : Heap) (locs : List Loc) (ls : Array Slot), St D A ad S σ s.heap H locs → lv_has ls 9 [(0, .ref (ad 200)), (1, .int u1), (2, .int u2), (3, .int u3), (4, .int u4), (5, .int u5), (7, .int v7)] → f_X6_feed_L62 k115 u1 u2 u3 u4 u5 n σ v7 = some r → W p l e rm_X6_feed s m args below meth c H locs 0 0 (MQ below (QG D A ad S (some (.int r.2)) r.1) args s 0 0 A) (F0 m 62 ls []) := by
  have hx := Z.1
  have hb := Z.2.1
  have hown := Z.2.2.2.2.2.1
  have hts := Z.2.2.2.2.2.2.1
  intro n
  induction n with
  | zero => intro σ v7 H locs ls hS hl h; cases h
  | succ n ih =>
    intro σ v7 H locs ls hS hl h
    unfold f_X6_feed_L62 at h
    refine lv_iload hx hb dX6_feed_62 (lv_at hl 6 rfl) ?_
    refine lv_bipush (v := (20 : Int32)) hx hb dX6_feed_64 (by decide) ?_
    refine lv_icmp_ge (tgt := 115) hx hb dX6_feed_66 (by decide) (fun c10 => ?_) (fun c10 => ?_)
    · have h := if_t h c10
      exact hk115 _ _ _ _ hS (lv_sub hl [0] rfl) h
    · have h := if_f h c10
      refine lv_iload_n hx hb dX6_feed_69 rfl (lv_at hl 1 rfl) ?_
      refine lv_iload_n hx hb dX6_feed_70 rfl (lv_at hl 2 rfl) ?_
      refine lv_iload_n hx hb dX6_feed_71 rfl (lv_at hl 3 rfl) ?_
      refine lv_iload hx hb dX6_feed_72 (lv_at hl 4 rfl) ?_
      refine lv_iload hx hb dX6_feed_74 (lv_at hl 5 rfl) ?_
      refine lv_iload hx hb dX6_feed_76 (lv_at hl 6 rfl) ?_
      refine h_ci hS h (fun z hz => h_rS (rest := []) Z hS v_X6_213 (w_X6_byteOf hz) rfl rfl ⟨by decide, by decide⟩ rfl hl.1 rfl (Nat.le_of_ble_eq_true rfl) (Nat.zero_le _) (Nat.zero_le _) dX6_feed_78) (fun x11 H locs hS h => ?_)
      refine lv_istore (lv' := [(8, .int x11), (0, .ref (ad 200)), (1, .int u1), (2, .int u2), (3, .int u3), (4, .int u4), (5, .int u5), (7, .int v7)]) hx hb dX6_feed_81 hl (by decide) rfl (fun ls hl => ?_)
      refine lv_iload hx hb dX6_feed_83 (lv_at hl 0 rfl) ?_
      refine lv_if_eq (tgt := 109) hx hb dX6_feed_85 (by decide) (fun c12 => ?_) (fun c12 => ?_)
      · have h := if_t h c12
        refine lv_iinc (v := (v7 + (1 : Int32))) (lv' := [(7, .int (v7 + (1 : Int32))), (8, .int x11), (0, .ref (ad 200)), (1, .int u1), (2, .int u2), (3, .int u3), (4, .int u4), (5, .int u5)]) hx hb dX6_feed_109 hl (k := 7) rfl rfl (by decide) rfl (fun ls hl => ?_)
        refine lv_goto (tgt := 62) hx hb dX6_feed_112 (by decide) ?_
        exact ih _ _ _ _ _ hS (lv_sub hl [2, 3, 4, 5, 6, 7, 0] rfl) h
      · have h := if_f h c12
        refine lv_aload_n hx hb dX6_feed_88 rfl (lv_at hl 1 rfl) ?_
        refine h_getC (n := 26) (j := 226) (sh := (1, 160)) Z hS cls_14 hu0 (by decide) rfl rfl rfl fl_X6_77_14 dX6_feed_89 (fun hc13 => ?_)
        refine lv_aload_n hx hb dX6_feed_92 rfl (lv_at hl 1 rfl) ?_
        refine h_getI Z hS cls_14 hu0 (by decide) rfl fl_X6_217_14 dX6_feed_93 h (fun x14 h => ?_)
        refine lv_iload hx hb dX6_feed_96 (lv_at hl 0 rfl) ?_
        refine h_iast Z hS hc13 dX6_feed_98 h (fun σ15 H locs hS h => ?_)
        refine lv_aload_n hx hb dX6_feed_99 rfl (lv_at hl 1 rfl) ?_
        refine lv_dup hx hb dX6_feed_100 rfl ?_
        refine h_getI Z hS cls_14 hu0 (by decide) rfl fl_X6_217_14 dX6_feed_101 h (fun x16 h => ?_)
        refine lv_iconst (v := (1 : Int32)) hx hb dX6_feed_104 (by decide) ?_
        refine lv_iadd hx hb dX6_feed_105 ?_
        refine h_putI Z hS cls_14 hu0 (by decide) rfl rfl rfl fl_X6_217_14 dX6_feed_106 h (fun σ17 H locs hS h => ?_)
        refine lv_iinc (v := (v7 + (1 : Int32))) (lv' := [(7, .int (v7 + (1 : Int32))), (8, .int x11), (0, .ref (ad 200)), (1, .int u1), (2, .int u2), (3, .int u3), (4, .int u4), (5, .int u5)]) hx hb dX6_feed_109 hl (k := 7) rfl rfl (by decide) rfl (fun ls hl => ?_)
        refine lv_goto (tgt := 62) hx hb dX6_feed_112 (by decide) ?_
        exact ih _ _ _ _ _ hS (lv_sub hl [2, 3, 4, 5, 6, 7, 0] rfl) h
set_option maxRecDepth 100000 in
set_option maxHeartbeats 4000000 in
theorem w_X6_feed {a1 : Int32} {a2 : Int32} {a3 : Int32} {a4 : Int32} {a5 : Int32} (hi0 : S 200 = (24, 0)) {r : (Mem × Int32)} (h : f_X6_feed σ a1 a2 a3 a4 a5 = some r) : Met l yX6_feed (ws_ yX6_feed cX6_feed 9 (some .int)) rm_X6_feed (va_Pc [.ref (ad 200), .int a1, .int a2, .int a3, .int a4, .int a5] (PreG D (Ew D A) A ad S σ)) (QG D A ad S (some (.int r.2)) r.1) 0 0 A := by
  refine y_met (by decide) (Nat.le_of_ble_eq_true rfl) (fun p e s m below meth c ls Z hS hl => ?_)
  have hx := Z.1
  have hb := Z.2.1
  have hown := Z.2.2.2.2.2.1
  have hts := Z.2.2.2.2.2.2.1
  unfold f_X6_feed at h
  refine lv_iconst (v := (0 : Int32)) hx hb dX6_feed_0 (by decide) ?_
  refine lv_istore (lv' := [(6, .int (0 : Int32)), (0, .ref (ad 200)), (1, .int a1), (2, .int a2), (3, .int a3), (4, .int a4), (5, .int a5)]) hx hb dX6_feed_1 hl (by decide) rfl (fun ls hl => ?_)
  refine lv_iconst (v := (0 : Int32)) hx hb dX6_feed_3 (by decide) ?_
  refine lv_istore (lv' := [(7, .int (0 : Int32)), (6, .int (0 : Int32)), (0, .ref (ad 200)), (1, .int a1), (2, .int a2), (3, .int a3), (4, .int a4), (5, .int a5)]) hx hb dX6_feed_4 hl (by decide) rfl (fun ls hl => ?_)
  refine w_X6_feed_L6 Z hi0 (fun x7 H locs ls hS hl h => ?_) FU _ _ _ _ _ hS (lv_sub hl [2, 3, 4, 5, 6, 7, 1, 0] rfl) h
  refine lv_aload_n hx hb dX6_feed_44 rfl (lv_at hl 0 rfl) ?_
  refine h_getI Z hS cls_14 hi0 (by decide) rfl fl_X6_217_14 dX6_feed_45 h (fun x8 h => ?_)
  refine lv_iload hx hb dX6_feed_48 (lv_at hl 6 rfl) ?_
  refine lv_iadd hx hb dX6_feed_50 ?_
  refine lv_sipush (v := (160 : Int32)) hx hb dX6_feed_51 (by decide) ?_
  refine lv_icmp_le (tgt := 59) hx hb dX6_feed_54 (by decide) (fun c9 => ?_) (fun c9 => ?_)
  · have h := if_t h c9
    refine lv_iconst (v := (0 : Int32)) hx hb dX6_feed_59 (by decide) ?_
    refine lv_istore (lv' := [(7, .int (0 : Int32)), (0, .ref (ad 200)), (1, .int a1), (2, .int a2), (3, .int a3), (4, .int a4), (5, .int a5), (6, .int x7)]) hx hb dX6_feed_60 hl (by decide) rfl (fun ls hl => ?_)
    refine w_X6_feed_L62 Z hi0 (fun σ18 H locs ls hS hl h => ?_) FU _ _ _ _ _ hS (lv_sub hl [1, 2, 3, 4, 5, 6, 0] rfl) h
    refine lv_aload_n hx hb dX6_feed_115 rfl (lv_at hl 0 rfl) ?_
    refine h_getI Z hS cls_14 hi0 (by decide) rfl fl_X6_217_14 dX6_feed_116 h (fun x19 h => ?_)
    exact h_iretm Z hS dX6_feed_119 h
  · have h := if_f h c9
    refine lv_iconst (v := (-1 : Int32)) hx hb dX6_feed_57 (by decide) ?_
    exact h_iretm Z hS dX6_feed_58 h
end
theorem dX6_end_0 : decode cX6_end 0 = .ok (.iload_n 1, 1) := by decide +kernel
theorem dX6_end_1 : decode cX6_end 1 = .ok (.ifCond .lt 11, 3) := by decide +kernel
theorem dX6_end_4 : decode cX6_end 4 = .ok (.iload_n 1, 1) := by decide +kernel
theorem dX6_end_5 : decode cX6_end 5 = .ok (.aload_n 0, 1) := by decide +kernel
theorem dX6_end_6 : decode cX6_end 6 = .ok (.getfield 217, 3) := by decide +kernel
theorem dX6_end_9 : decode cX6_end 9 = .ok (.if_icmp .le 5, 3) := by decide +kernel
theorem dX6_end_12 : decode cX6_end 12 = .ok (.iconst 0, 1) := by decide +kernel
theorem dX6_end_13 : decode cX6_end 13 = .ok (.ireturn, 1) := by decide +kernel
theorem dX6_end_14 : decode cX6_end 14 = .ok (.aload_n 0, 1) := by decide +kernel
theorem dX6_end_15 : decode cX6_end 15 = .ok (.iload_n 1, 1) := by decide +kernel
theorem dX6_end_16 : decode cX6_end 16 = .ok (.putfield 217, 3) := by decide +kernel
theorem dX6_end_19 : decode cX6_end 19 = .ok (.iconst 1, 1) := by decide +kernel
theorem dX6_end_20 : decode cX6_end 20 = .ok (.ireturn, 1) := by decide +kernel
abbrev rm_X6_end : Room := k2_rm 0 0
section
variable {p : Program} {l : Launch} {e : Env} {s : State} {m : MethodId} {args : Array Value} {below : List Frame} {meth : Method} {c : Code} {D : gD} {A : Nat → Prop} {ad : Nat → Nat} {S : Nat → Nat × Nat} {σ : Mem}
set_option maxRecDepth 100000 in
set_option maxHeartbeats 4000000 in
theorem w_X6_end {a1 : Int32} (hi0 : S 200 = (24, 0)) {r : (Mem × Int32)} (h : f_X6_end σ a1 = some r) : Met l yX6_end (ws_ yX6_end cX6_end 2 (some .boolean)) rm_X6_end (va_Pc [.ref (ad 200), .int a1] (PreG D (Ew D A) A ad S σ)) (QG D A ad S (some (.int r.2)) r.1) 0 0 A := by
  refine y_met (by decide) (Nat.le_of_ble_eq_true rfl) (fun p e s m below meth c ls Z hS hl => ?_)
  have hx := Z.1
  have hb := Z.2.1
  have hown := Z.2.2.2.2.2.1
  have hts := Z.2.2.2.2.2.2.1
  unfold f_X6_end at h
  refine lv_iload_n hx hb dX6_end_0 rfl (lv_at hl 1 rfl) ?_
  refine lv_if_lt (tgt := 12) hx hb dX6_end_1 (by decide) (fun c1 => ?_) (fun c1 => ?_)
  · have h := if_t h c1
    refine lv_iconst (v := (0 : Int32)) hx hb dX6_end_12 (by decide) ?_
    exact h_zretm Z hS dX6_end_13 h
  · have h := if_f h c1
    refine lv_iload_n hx hb dX6_end_4 rfl (lv_at hl 1 rfl) ?_
    refine lv_aload_n hx hb dX6_end_5 rfl (lv_at hl 0 rfl) ?_
    refine h_getI Z hS cls_14 hi0 (by decide) rfl fl_X6_217_14 dX6_end_6 h (fun x2 h => ?_)
    refine lv_icmp_le (tgt := 14) hx hb dX6_end_9 (by decide) (fun c3 => ?_) (fun c3 => ?_)
    · have h := if_t h c3
      refine lv_aload_n hx hb dX6_end_14 rfl (lv_at hl 0 rfl) ?_
      refine lv_iload_n hx hb dX6_end_15 rfl (lv_at hl 1 rfl) ?_
      refine h_putI Z hS cls_14 hi0 (by decide) rfl rfl rfl fl_X6_217_14 dX6_end_16 h (fun σ4 H locs hS h => ?_)
      refine lv_iconst (v := (1 : Int32)) hx hb dX6_end_19 (by decide) ?_
      exact h_zretm Z hS dX6_end_20 h
    · have h := if_f h c3
      refine lv_iconst (v := (0 : Int32)) hx hb dX6_end_12 (by decide) ?_
      exact h_zretm Z hS dX6_end_13 h
end
theorem dX6_look_0 : decode cX6_look 0 = .ok (.aload_n 0, 1) := by decide +kernel
theorem dX6_look_1 : decode cX6_look 1 = .ok (.getfield 220, 3) := by decide +kernel
theorem dX6_look_4 : decode cX6_look 4 = .ok (.aload_n 0, 1) := by decide +kernel
theorem dX6_look_5 : decode cX6_look 5 = .ok (.getfield 217, 3) := by decide +kernel
theorem dX6_look_8 : decode cX6_look 8 = .ok (.if_icmp .ge 30, 3) := by decide +kernel
theorem dX6_look_11 : decode cX6_look 11 = .ok (.aload_n 0, 1) := by decide +kernel
theorem dX6_look_12 : decode cX6_look 12 = .ok (.getfield 77, 3) := by decide +kernel
theorem dX6_look_15 : decode cX6_look 15 = .ok (.aload_n 0, 1) := by decide +kernel
theorem dX6_look_16 : decode cX6_look 16 = .ok (.getfield 220, 3) := by decide +kernel
theorem dX6_look_19 : decode cX6_look 19 = .ok (.iaload, 1) := by decide +kernel
theorem dX6_look_20 : decode cX6_look 20 = .ok (.bipush 32, 2) := by decide +kernel
theorem dX6_look_22 : decode cX6_look 22 = .ok (.if_icmp .ne 16, 3) := by decide +kernel
theorem dX6_look_25 : decode cX6_look 25 = .ok (.aload_n 0, 1) := by decide +kernel
theorem dX6_look_26 : decode cX6_look 26 = .ok (.dup, 1) := by decide +kernel
theorem dX6_look_27 : decode cX6_look 27 = .ok (.getfield 220, 3) := by decide +kernel
theorem dX6_look_30 : decode cX6_look 30 = .ok (.iconst 1, 1) := by decide +kernel
theorem dX6_look_31 : decode cX6_look 31 = .ok (.iadd, 1) := by decide +kernel
theorem dX6_look_32 : decode cX6_look 32 = .ok (.putfield 220, 3) := by decide +kernel
theorem dX6_look_35 : decode cX6_look 35 = .ok (.goto (-35), 3) := by decide +kernel
theorem dX6_look_38 : decode cX6_look 38 = .ok (.aload_n 0, 1) := by decide +kernel
theorem dX6_look_39 : decode cX6_look 39 = .ok (.getfield 220, 3) := by decide +kernel
theorem dX6_look_42 : decode cX6_look 42 = .ok (.aload_n 0, 1) := by decide +kernel
theorem dX6_look_43 : decode cX6_look 43 = .ok (.getfield 217, 3) := by decide +kernel
theorem dX6_look_46 : decode cX6_look 46 = .ok (.if_icmp .ge 15, 3) := by decide +kernel
theorem dX6_look_49 : decode cX6_look 49 = .ok (.aload_n 0, 1) := by decide +kernel
theorem dX6_look_50 : decode cX6_look 50 = .ok (.getfield 77, 3) := by decide +kernel
theorem dX6_look_53 : decode cX6_look 53 = .ok (.aload_n 0, 1) := by decide +kernel
theorem dX6_look_54 : decode cX6_look 54 = .ok (.getfield 220, 3) := by decide +kernel
theorem dX6_look_57 : decode cX6_look 57 = .ok (.iaload, 1) := by decide +kernel
theorem dX6_look_58 : decode cX6_look 58 = .ok (.goto 4, 3) := by decide +kernel
theorem dX6_look_61 : decode cX6_look 61 = .ok (.iconst (-1), 1) := by decide +kernel
theorem dX6_look_62 : decode cX6_look 62 = .ok (.ireturn, 1) := by decide +kernel
abbrev rm_X6_look : Room := k2_rm 0 0
section
variable {p : Program} {l : Launch} {e : Env} {s : State} {m : MethodId} {args : Array Value} {below : List Frame} {meth : Method} {c : Code} {D : gD} {A : Nat → Prop} {ad : Nat → Nat} {S : Nat → Nat × Nat} {σ : Mem}
set_option maxRecDepth 100000 in
set_option maxHeartbeats 4000000 in
theorem w_X6_look_L0 (Z : Cz D (Ew D A) A cX6_look 1 (some .int) RX6 p s m args meth c) (hu0 : S 200 = (24, 0)) {r : (Mem × Int32)} {k38 : Mem → Option (Mem × Int32)}
    (hk38 : ∀ (σ : Mem)  (H : Heap) (locs : List Loc) (ls : Array Slot), St D A ad S σ s.heap H locs → lv_has ls 1 [(0, .ref (ad 200))] → k38 σ = some r → W p l e rm_X6_look s m args below meth c H locs 0 0 (MQ below (QG D A ad S (some (.int r.2)) r.1) args s 0 0 A) (F0 m 38 ls [])) :
    ∀ (n : Nat) (σ : Mem)  (H : Heap) (locs : List Loc) (ls : Array Slot), St D A ad S σ s.heap H locs → lv_has ls 1 [(0, .ref (ad 200))] → f_X6_look_L0 k38 n σ = some r → W p l e rm_X6_look s m args below meth c H locs 0 0 (MQ below (QG D A ad S (some (.int r.2)) r.1) args s 0 0 A) (F0 m 0 ls []) := by
  have hx := Z.1
  have hb := Z.2.1
  have hown := Z.2.2.2.2.2.1
  have hts := Z.2.2.2.2.2.2.1
  intro n
  induction n with
  | zero => intro σ H locs ls hS hl h; cases h
  | succ n ih =>
    intro σ H locs ls hS hl h
    unfold f_X6_look_L0 at h
    refine lv_aload_n hx hb dX6_look_0 rfl (lv_at hl 0 rfl) ?_
    refine h_getI Z hS cls_14 hu0 (by decide) rfl fl_X6_220_14 dX6_look_1 h (fun x1 h => ?_)
    refine lv_aload_n hx hb dX6_look_4 rfl (lv_at hl 0 rfl) ?_
    refine h_getI Z hS cls_14 hu0 (by decide) rfl fl_X6_217_14 dX6_look_5 h (fun x2 h => ?_)
    refine lv_icmp_ge (tgt := 38) hx hb dX6_look_8 (by decide) (fun c3 => ?_) (fun c3 => ?_)
    · have h := if_t h c3
      exact hk38 _ _ _ _ hS (lv_sub hl [0] rfl) h
    · have h := if_f h c3
      refine lv_aload_n hx hb dX6_look_11 rfl (lv_at hl 0 rfl) ?_
      refine h_getC (n := 26) (j := 226) (sh := (1, 160)) Z hS cls_14 hu0 (by decide) rfl rfl rfl fl_X6_77_14 dX6_look_12 (fun hc4 => ?_)
      refine lv_aload_n hx hb dX6_look_15 rfl (lv_at hl 0 rfl) ?_
      refine h_getI Z hS cls_14 hu0 (by decide) rfl fl_X6_220_14 dX6_look_16 h (fun x5 h => ?_)
      refine h_iald Z hS hc4 dX6_look_19 h (fun x6 h => ?_)
      refine lv_bipush (v := (32 : Int32)) hx hb dX6_look_20 (by decide) ?_
      refine lv_icmp_ne (tgt := 38) hx hb dX6_look_22 (by decide) (fun c7 => ?_) (fun c7 => ?_)
      · have h := if_f h c7
        exact hk38 _ _ _ _ hS (lv_sub hl [0] rfl) h
      · have h := if_t h c7
        refine lv_aload_n hx hb dX6_look_25 rfl (lv_at hl 0 rfl) ?_
        refine lv_dup hx hb dX6_look_26 rfl ?_
        refine h_getI Z hS cls_14 hu0 (by decide) rfl fl_X6_220_14 dX6_look_27 h (fun x8 h => ?_)
        refine lv_iconst (v := (1 : Int32)) hx hb dX6_look_30 (by decide) ?_
        refine lv_iadd hx hb dX6_look_31 ?_
        refine h_putI Z hS cls_14 hu0 (by decide) rfl rfl rfl fl_X6_220_14 dX6_look_32 h (fun σ9 H locs hS h => ?_)
        refine lv_goto (tgt := 0) hx hb dX6_look_35 (by decide) ?_
        exact ih _ _ _ _ hS (lv_sub hl [0] rfl) h
set_option maxRecDepth 100000 in
set_option maxHeartbeats 4000000 in
theorem w_X6_look (hi0 : S 200 = (24, 0)) {r : (Mem × Int32)} (h : f_X6_look σ = some r) : Met l yX6_look (ws_ yX6_look cX6_look 1 (some .int)) rm_X6_look (va_Pc [.ref (ad 200)] (PreG D (Ew D A) A ad S σ)) (QG D A ad S (some (.int r.2)) r.1) 0 0 A := by
  refine y_met (by decide) (Nat.le_of_ble_eq_true rfl) (fun p e s m below meth c ls Z hS hl => ?_)
  have hx := Z.1
  have hb := Z.2.1
  have hown := Z.2.2.2.2.2.1
  have hts := Z.2.2.2.2.2.2.1
  unfold f_X6_look at h
  refine w_X6_look_L0 Z hi0 (fun σ10 H locs ls hS hl h => ?_) FU _ _ _ _ hS (lv_sub hl [0] rfl) h
  refine lv_aload_n hx hb dX6_look_38 rfl (lv_at hl 0 rfl) ?_
  refine h_getI Z hS cls_14 hi0 (by decide) rfl fl_X6_220_14 dX6_look_39 h (fun x11 h => ?_)
  refine lv_aload_n hx hb dX6_look_42 rfl (lv_at hl 0 rfl) ?_
  refine h_getI Z hS cls_14 hi0 (by decide) rfl fl_X6_217_14 dX6_look_43 h (fun x12 h => ?_)
  refine lv_icmp_ge (tgt := 61) hx hb dX6_look_46 (by decide) (fun c13 => ?_) (fun c13 => ?_)
  · have h := if_t h c13
    refine lv_iconst (v := (-1 : Int32)) hx hb dX6_look_61 (by decide) ?_
    exact h_iretm Z hS dX6_look_62 h
  · have h := if_f h c13
    refine lv_aload_n hx hb dX6_look_49 rfl (lv_at hl 0 rfl) ?_
    refine h_getC (n := 26) (j := 226) (sh := (1, 160)) Z hS cls_14 hi0 (by decide) rfl rfl rfl fl_X6_77_14 dX6_look_50 (fun hc14 => ?_)
    refine lv_aload_n hx hb dX6_look_53 rfl (lv_at hl 0 rfl) ?_
    refine h_getI Z hS cls_14 hi0 (by decide) rfl fl_X6_220_14 dX6_look_54 h (fun x15 h => ?_)
    refine h_iald Z hS hc14 dX6_look_57 h (fun x16 h => ?_)
    refine lv_goto (tgt := 62) hx hb dX6_look_58 (by decide) ?_
    exact h_iretm Z hS dX6_look_62 h
end
theorem dX6_isLabel_0 : decode cX6_isLabel 0 = .ok (.iload_n 0, 1) := by decide +kernel
theorem dX6_isLabel_1 : decode cX6_isLabel 1 = .ok (.bipush 119, 2) := by decide +kernel
theorem dX6_isLabel_3 : decode cX6_isLabel 3 = .ok (.if_icmp .eq 21, 3) := by decide +kernel
theorem dX6_isLabel_6 : decode cX6_isLabel 6 = .ok (.iload_n 0, 1) := by decide +kernel
theorem dX6_isLabel_7 : decode cX6_isLabel 7 = .ok (.bipush 114, 2) := by decide +kernel
theorem dX6_isLabel_9 : decode cX6_isLabel 9 = .ok (.if_icmp .eq 15, 3) := by decide +kernel
theorem dX6_isLabel_12 : decode cX6_isLabel 12 = .ok (.iload_n 0, 1) := by decide +kernel
theorem dX6_isLabel_13 : decode cX6_isLabel 13 = .ok (.bipush 99, 2) := by decide +kernel
theorem dX6_isLabel_15 : decode cX6_isLabel 15 = .ok (.if_icmp .eq 9, 3) := by decide +kernel
theorem dX6_isLabel_18 : decode cX6_isLabel 18 = .ok (.iload_n 0, 1) := by decide +kernel
theorem dX6_isLabel_19 : decode cX6_isLabel 19 = .ok (.bipush 117, 2) := by decide +kernel
theorem dX6_isLabel_21 : decode cX6_isLabel 21 = .ok (.if_icmp .ne 7, 3) := by decide +kernel
theorem dX6_isLabel_24 : decode cX6_isLabel 24 = .ok (.iconst 1, 1) := by decide +kernel
theorem dX6_isLabel_25 : decode cX6_isLabel 25 = .ok (.goto 4, 3) := by decide +kernel
theorem dX6_isLabel_28 : decode cX6_isLabel 28 = .ok (.iconst 0, 1) := by decide +kernel
theorem dX6_isLabel_29 : decode cX6_isLabel 29 = .ok (.ireturn, 1) := by decide +kernel
abbrev rm_X6_isLabel : Room := k2_rm 0 0
section
variable {p : Program} {l : Launch} {e : Env} {s : State} {m : MethodId} {args : Array Value} {below : List Frame} {meth : Method} {c : Code} {D : gD} {A : Nat → Prop} {ad : Nat → Nat} {S : Nat → Nat × Nat} {σ : Mem}
set_option maxRecDepth 100000 in
set_option maxHeartbeats 4000000 in
theorem w_X6_isLabel {a1 : Int32} {r : Int32} (h : f_X6_isLabel σ a1 = some r) : Met l yX6_isLabel (ws_ yX6_isLabel cX6_isLabel 1 (some .boolean)) rm_X6_isLabel (va_Pc [.int a1] (PreG D (Ew D A) A ad S σ)) (QG D A ad S (some (.int r)) σ) 0 0 A := by
  refine y_met (by decide) (Nat.le_of_ble_eq_true rfl) (fun p e s m below meth c ls Z hS hl => ?_)
  have hx := Z.1
  have hb := Z.2.1
  have hown := Z.2.2.2.2.2.1
  have hts := Z.2.2.2.2.2.2.1
  unfold f_X6_isLabel at h
  refine lv_iload_n hx hb dX6_isLabel_0 rfl (lv_at hl 0 rfl) ?_
  refine lv_bipush (v := (119 : Int32)) hx hb dX6_isLabel_1 (by decide) ?_
  refine lv_icmp_eq (tgt := 24) hx hb dX6_isLabel_3 (by decide) (fun c1 => ?_) (fun c1 => ?_)
  · have h := if_t h c1
    refine lv_iconst (v := (1 : Int32)) hx hb dX6_isLabel_24 (by decide) ?_
    refine lv_goto (tgt := 29) hx hb dX6_isLabel_25 (by decide) ?_
    exact h_zret Z hS dX6_isLabel_29 h
  · have h := if_f h c1
    refine lv_iload_n hx hb dX6_isLabel_6 rfl (lv_at hl 0 rfl) ?_
    refine lv_bipush (v := (114 : Int32)) hx hb dX6_isLabel_7 (by decide) ?_
    refine lv_icmp_eq (tgt := 24) hx hb dX6_isLabel_9 (by decide) (fun c2 => ?_) (fun c2 => ?_)
    · have h := if_t h c2
      refine lv_iconst (v := (1 : Int32)) hx hb dX6_isLabel_24 (by decide) ?_
      refine lv_goto (tgt := 29) hx hb dX6_isLabel_25 (by decide) ?_
      exact h_zret Z hS dX6_isLabel_29 h
    · have h := if_f h c2
      refine lv_iload_n hx hb dX6_isLabel_12 rfl (lv_at hl 0 rfl) ?_
      refine lv_bipush (v := (99 : Int32)) hx hb dX6_isLabel_13 (by decide) ?_
      refine lv_icmp_eq (tgt := 24) hx hb dX6_isLabel_15 (by decide) (fun c3 => ?_) (fun c3 => ?_)
      · have h := if_t h c3
        refine lv_iconst (v := (1 : Int32)) hx hb dX6_isLabel_24 (by decide) ?_
        refine lv_goto (tgt := 29) hx hb dX6_isLabel_25 (by decide) ?_
        exact h_zret Z hS dX6_isLabel_29 h
      · have h := if_f h c3
        refine lv_iload_n hx hb dX6_isLabel_18 rfl (lv_at hl 0 rfl) ?_
        refine lv_bipush (v := (117 : Int32)) hx hb dX6_isLabel_19 (by decide) ?_
        refine lv_icmp_ne (tgt := 28) hx hb dX6_isLabel_21 (by decide) (fun c4 => ?_) (fun c4 => ?_)
        · have h := if_f h c4
          refine lv_iconst (v := (0 : Int32)) hx hb dX6_isLabel_28 (by decide) ?_
          exact h_zret Z hS dX6_isLabel_29 h
        · have h := if_t h c4
          refine lv_iconst (v := (1 : Int32)) hx hb dX6_isLabel_24 (by decide) ?_
          refine lv_goto (tgt := 29) hx hb dX6_isLabel_25 (by decide) ?_
          exact h_zret Z hS dX6_isLabel_29 h
end
theorem dX6_bad_0 : decode cX6_bad 0 = .ok (.aload_n 0, 1) := by decide +kernel
theorem dX6_bad_1 : decode cX6_bad 1 = .ok (.aload_n 0, 1) := by decide +kernel
theorem dX6_bad_2 : decode cX6_bad 2 = .ok (.getfield 223, 3) := by decide +kernel
theorem dX6_bad_5 : decode cX6_bad 5 = .ok (.iconst (-1), 1) := by decide +kernel
theorem dX6_bad_6 : decode cX6_bad 6 = .ok (.if_icmp .ne 10, 3) := by decide +kernel
theorem dX6_bad_9 : decode cX6_bad 9 = .ok (.aload_n 0, 1) := by decide +kernel
theorem dX6_bad_10 : decode cX6_bad 10 = .ok (.getfield 220, 3) := by decide +kernel
theorem dX6_bad_13 : decode cX6_bad 13 = .ok (.goto 7, 3) := by decide +kernel
theorem dX6_bad_16 : decode cX6_bad 16 = .ok (.aload_n 0, 1) := by decide +kernel
theorem dX6_bad_17 : decode cX6_bad 17 = .ok (.getfield 223, 3) := by decide +kernel
theorem dX6_bad_20 : decode cX6_bad 20 = .ok (.putfield 223, 3) := by decide +kernel
theorem dX6_bad_23 : decode cX6_bad 23 = .ok (.return_, 1) := by decide +kernel
abbrev rm_X6_bad : Room := k2_rm 0 0
section
variable {p : Program} {l : Launch} {e : Env} {s : State} {m : MethodId} {args : Array Value} {below : List Frame} {meth : Method} {c : Code} {D : gD} {A : Nat → Prop} {ad : Nat → Nat} {S : Nat → Nat × Nat} {σ : Mem}
set_option maxRecDepth 100000 in
set_option maxHeartbeats 4000000 in
theorem w_X6_bad (hi0 : S 200 = (24, 0)) {r : Mem} (h : f_X6_bad σ = some r) : Met l yX6_bad (ws_ yX6_bad cX6_bad 1 none) rm_X6_bad (va_Pc [.ref (ad 200)] (PreG D (Ew D A) A ad S σ)) (QG D A ad S none r) 0 0 A := by
  refine y_met (by decide) (Nat.le_of_ble_eq_true rfl) (fun p e s m below meth c ls Z hS hl => ?_)
  have hx := Z.1
  have hb := Z.2.1
  have hown := Z.2.2.2.2.2.1
  have hts := Z.2.2.2.2.2.2.1
  unfold f_X6_bad at h
  refine lv_aload_n hx hb dX6_bad_0 rfl (lv_at hl 0 rfl) ?_
  refine lv_aload_n hx hb dX6_bad_1 rfl (lv_at hl 0 rfl) ?_
  refine h_getI Z hS cls_14 hi0 (by decide) rfl fl_X6_223_14 dX6_bad_2 h (fun x1 h => ?_)
  refine lv_iconst (v := (-1 : Int32)) hx hb dX6_bad_5 (by decide) ?_
  refine lv_icmp_ne (tgt := 16) hx hb dX6_bad_6 (by decide) (fun c2 => ?_) (fun c2 => ?_)
  · have h := if_f h c2
    refine lv_aload_n hx hb dX6_bad_16 rfl (lv_at hl 0 rfl) ?_
    refine h_getI Z hS cls_14 hi0 (by decide) rfl fl_X6_223_14 dX6_bad_17 h (fun x5 h => ?_)
    refine h_putI Z hS cls_14 hi0 (by decide) rfl rfl rfl fl_X6_223_14 dX6_bad_20 h (fun σ6 H locs hS h => ?_)
    exact h_vret Z hS dX6_bad_23 h
  · have h := if_t h c2
    refine lv_aload_n hx hb dX6_bad_9 rfl (lv_at hl 0 rfl) ?_
    refine h_getI Z hS cls_14 hi0 (by decide) rfl fl_X6_220_14 dX6_bad_10 h (fun x3 h => ?_)
    refine lv_goto (tgt := 20) hx hb dX6_bad_13 (by decide) ?_
    refine h_putI Z hS cls_14 hi0 (by decide) rfl rfl rfl fl_X6_223_14 dX6_bad_20 h (fun σ4 H locs hS h => ?_)
    exact h_vret Z hS dX6_bad_23 h
end
theorem dX6_say_0 : decode cX6_say 0 = .ok (.aload_n 0, 1) := by decide +kernel
theorem dX6_say_1 : decode cX6_say 1 = .ok (.getfield 80, 3) := by decide +kernel
theorem dX6_say_4 : decode cX6_say 4 = .ok (.aload_n 0, 1) := by decide +kernel
theorem dX6_say_5 : decode cX6_say 5 = .ok (.getfield 226, 3) := by decide +kernel
theorem dX6_say_8 : decode cX6_say 8 = .ok (.iload_n 1, 1) := by decide +kernel
theorem dX6_say_9 : decode cX6_say 9 = .ok (.iastore, 1) := by decide +kernel
theorem dX6_say_10 : decode cX6_say 10 = .ok (.aload_n 0, 1) := by decide +kernel
theorem dX6_say_11 : decode cX6_say 11 = .ok (.dup, 1) := by decide +kernel
theorem dX6_say_12 : decode cX6_say 12 = .ok (.getfield 226, 3) := by decide +kernel
theorem dX6_say_15 : decode cX6_say 15 = .ok (.iconst 1, 1) := by decide +kernel
theorem dX6_say_16 : decode cX6_say 16 = .ok (.iadd, 1) := by decide +kernel
theorem dX6_say_17 : decode cX6_say 17 = .ok (.putfield 226, 3) := by decide +kernel
theorem dX6_say_20 : decode cX6_say 20 = .ok (.return_, 1) := by decide +kernel
abbrev rm_X6_say : Room := k2_rm 0 0
section
variable {p : Program} {l : Launch} {e : Env} {s : State} {m : MethodId} {args : Array Value} {below : List Frame} {meth : Method} {c : Code} {D : gD} {A : Nat → Prop} {ad : Nat → Nat} {S : Nat → Nat × Nat} {σ : Mem}
set_option maxRecDepth 100000 in
set_option maxHeartbeats 4000000 in
theorem w_X6_say {a1 : Int32} (hi0 : S 200 = (24, 0)) {r : Mem} (h : f_X6_say σ a1 = some r) : Met l yX6_say (ws_ yX6_say cX6_say 2 none) rm_X6_say (va_Pc [.ref (ad 200), .int a1] (PreG D (Ew D A) A ad S σ)) (QG D A ad S none r) 0 0 A := by
  refine y_met (by decide) (Nat.le_of_ble_eq_true rfl) (fun p e s m below meth c ls Z hS hl => ?_)
  have hx := Z.1
  have hb := Z.2.1
  have hown := Z.2.2.2.2.2.1
  have hts := Z.2.2.2.2.2.2.1
  unfold f_X6_say at h
  refine lv_aload_n hx hb dX6_say_0 rfl (lv_at hl 0 rfl) ?_
  refine h_getC (n := 27) (j := 227) (sh := (1, 420)) Z hS cls_14 hi0 (by decide) rfl rfl rfl fl_X6_80_14 dX6_say_1 (fun hc1 => ?_)
  refine lv_aload_n hx hb dX6_say_4 rfl (lv_at hl 0 rfl) ?_
  refine h_getI Z hS cls_14 hi0 (by decide) rfl fl_X6_226_14 dX6_say_5 h (fun x2 h => ?_)
  refine lv_iload_n hx hb dX6_say_8 rfl (lv_at hl 1 rfl) ?_
  refine h_iast Z hS hc1 dX6_say_9 h (fun σ3 H locs hS h => ?_)
  refine lv_aload_n hx hb dX6_say_10 rfl (lv_at hl 0 rfl) ?_
  refine lv_dup hx hb dX6_say_11 rfl ?_
  refine h_getI Z hS cls_14 hi0 (by decide) rfl fl_X6_226_14 dX6_say_12 h (fun x4 h => ?_)
  refine lv_iconst (v := (1 : Int32)) hx hb dX6_say_15 (by decide) ?_
  refine lv_iadd hx hb dX6_say_16 ?_
  refine h_putI Z hS cls_14 hi0 (by decide) rfl rfl rfl fl_X6_226_14 dX6_say_17 h (fun σ5 H locs hS h => ?_)
  exact h_vret Z hS dX6_say_20 h
end
theorem dX6_isSign_0 : decode cX6_isSign 0 = .ok (.iload_n 0, 1) := by decide +kernel
theorem dX6_isSign_1 : decode cX6_isSign 1 = .ok (.bipush 61, 2) := by decide +kernel
theorem dX6_isSign_3 : decode cX6_isSign 3 = .ok (.if_icmp .eq 15, 3) := by decide +kernel
theorem dX6_isSign_6 : decode cX6_isSign 6 = .ok (.iload_n 0, 1) := by decide +kernel
theorem dX6_isSign_7 : decode cX6_isSign 7 = .ok (.bipush 60, 2) := by decide +kernel
theorem dX6_isSign_9 : decode cX6_isSign 9 = .ok (.if_icmp .eq 9, 3) := by decide +kernel
theorem dX6_isSign_12 : decode cX6_isSign 12 = .ok (.iload_n 0, 1) := by decide +kernel
theorem dX6_isSign_13 : decode cX6_isSign 13 = .ok (.bipush 62, 2) := by decide +kernel
theorem dX6_isSign_15 : decode cX6_isSign 15 = .ok (.if_icmp .ne 7, 3) := by decide +kernel
theorem dX6_isSign_18 : decode cX6_isSign 18 = .ok (.iconst 1, 1) := by decide +kernel
theorem dX6_isSign_19 : decode cX6_isSign 19 = .ok (.goto 4, 3) := by decide +kernel
theorem dX6_isSign_22 : decode cX6_isSign 22 = .ok (.iconst 0, 1) := by decide +kernel
theorem dX6_isSign_23 : decode cX6_isSign 23 = .ok (.ireturn, 1) := by decide +kernel
abbrev rm_X6_isSign : Room := k2_rm 0 0
section
variable {p : Program} {l : Launch} {e : Env} {s : State} {m : MethodId} {args : Array Value} {below : List Frame} {meth : Method} {c : Code} {D : gD} {A : Nat → Prop} {ad : Nat → Nat} {S : Nat → Nat × Nat} {σ : Mem}
set_option maxRecDepth 100000 in
set_option maxHeartbeats 4000000 in
theorem w_X6_isSign {a1 : Int32} {r : Int32} (h : f_X6_isSign σ a1 = some r) : Met l yX6_isSign (ws_ yX6_isSign cX6_isSign 1 (some .boolean)) rm_X6_isSign (va_Pc [.int a1] (PreG D (Ew D A) A ad S σ)) (QG D A ad S (some (.int r)) σ) 0 0 A := by
  refine y_met (by decide) (Nat.le_of_ble_eq_true rfl) (fun p e s m below meth c ls Z hS hl => ?_)
  have hx := Z.1
  have hb := Z.2.1
  have hown := Z.2.2.2.2.2.1
  have hts := Z.2.2.2.2.2.2.1
  unfold f_X6_isSign at h
  refine lv_iload_n hx hb dX6_isSign_0 rfl (lv_at hl 0 rfl) ?_
  refine lv_bipush (v := (61 : Int32)) hx hb dX6_isSign_1 (by decide) ?_
  refine lv_icmp_eq (tgt := 18) hx hb dX6_isSign_3 (by decide) (fun c1 => ?_) (fun c1 => ?_)
  · have h := if_t h c1
    refine lv_iconst (v := (1 : Int32)) hx hb dX6_isSign_18 (by decide) ?_
    refine lv_goto (tgt := 23) hx hb dX6_isSign_19 (by decide) ?_
    exact h_zret Z hS dX6_isSign_23 h
  · have h := if_f h c1
    refine lv_iload_n hx hb dX6_isSign_6 rfl (lv_at hl 0 rfl) ?_
    refine lv_bipush (v := (60 : Int32)) hx hb dX6_isSign_7 (by decide) ?_
    refine lv_icmp_eq (tgt := 18) hx hb dX6_isSign_9 (by decide) (fun c2 => ?_) (fun c2 => ?_)
    · have h := if_t h c2
      refine lv_iconst (v := (1 : Int32)) hx hb dX6_isSign_18 (by decide) ?_
      refine lv_goto (tgt := 23) hx hb dX6_isSign_19 (by decide) ?_
      exact h_zret Z hS dX6_isSign_23 h
    · have h := if_f h c2
      refine lv_iload_n hx hb dX6_isSign_12 rfl (lv_at hl 0 rfl) ?_
      refine lv_bipush (v := (62 : Int32)) hx hb dX6_isSign_13 (by decide) ?_
      refine lv_icmp_ne (tgt := 22) hx hb dX6_isSign_15 (by decide) (fun c3 => ?_) (fun c3 => ?_)
      · have h := if_f h c3
        refine lv_iconst (v := (0 : Int32)) hx hb dX6_isSign_22 (by decide) ?_
        exact h_zret Z hS dX6_isSign_23 h
      · have h := if_t h c3
        refine lv_iconst (v := (1 : Int32)) hx hb dX6_isSign_18 (by decide) ?_
        refine lv_goto (tgt := 23) hx hb dX6_isSign_19 (by decide) ?_
        exact h_zret Z hS dX6_isSign_23 h
end
theorem dX6_opens_0 : decode cX6_opens 0 = .ok (.aload_n 0, 1) := by decide +kernel
theorem dX6_opens_1 : decode cX6_opens 1 = .ok (.getfield 229, 3) := by decide +kernel
theorem dX6_opens_4 : decode cX6_opens 4 = .ok (.bipush 6, 2) := by decide +kernel
theorem dX6_opens_6 : decode cX6_opens 6 = .ok (.if_icmp .ne 9, 3) := by decide +kernel
theorem dX6_opens_9 : decode cX6_opens 9 = .ok (.aload_n 0, 1) := by decide +kernel
theorem dX6_opens_10 : decode cX6_opens 10 = .ok (.invokevirtual 232, 3) := by decide +kernel
theorem dX6_opens_13 : decode cX6_opens 13 = .ok (.iconst 0, 1) := by decide +kernel
theorem dX6_opens_14 : decode cX6_opens 14 = .ok (.ireturn, 1) := by decide +kernel
theorem dX6_opens_15 : decode cX6_opens 15 = .ok (.aload_n 0, 1) := by decide +kernel
theorem dX6_opens_16 : decode cX6_opens 16 = .ok (.dup, 1) := by decide +kernel
theorem dX6_opens_17 : decode cX6_opens 17 = .ok (.getfield 229, 3) := by decide +kernel
theorem dX6_opens_20 : decode cX6_opens 20 = .ok (.iconst 1, 1) := by decide +kernel
theorem dX6_opens_21 : decode cX6_opens 21 = .ok (.iadd, 1) := by decide +kernel
theorem dX6_opens_22 : decode cX6_opens 22 = .ok (.putfield 229, 3) := by decide +kernel
theorem dX6_opens_25 : decode cX6_opens 25 = .ok (.aload_n 0, 1) := by decide +kernel
theorem dX6_opens_26 : decode cX6_opens 26 = .ok (.dup, 1) := by decide +kernel
theorem dX6_opens_27 : decode cX6_opens 27 = .ok (.getfield 220, 3) := by decide +kernel
theorem dX6_opens_30 : decode cX6_opens 30 = .ok (.iconst 1, 1) := by decide +kernel
theorem dX6_opens_31 : decode cX6_opens 31 = .ok (.iadd, 1) := by decide +kernel
theorem dX6_opens_32 : decode cX6_opens 32 = .ok (.putfield 220, 3) := by decide +kernel
theorem dX6_opens_35 : decode cX6_opens 35 = .ok (.iconst 1, 1) := by decide +kernel
theorem dX6_opens_36 : decode cX6_opens 36 = .ok (.ireturn, 1) := by decide +kernel
abbrev rm_X6_opens : Room := k2_rm 1 20
section
variable {p : Program} {l : Launch} {e : Env} {s : State} {m : MethodId} {args : Array Value} {below : List Frame} {meth : Method} {c : Code} {D : gD} {A : Nat → Prop} {ad : Nat → Nat} {S : Nat → Nat × Nat} {σ : Mem}
set_option maxRecDepth 100000 in
set_option maxHeartbeats 4000000 in
theorem w_X6_opens (hi0 : S 200 = (24, 0)) {r : (Mem × Int32)} (h : f_X6_opens σ = some r) : Met l yX6_opens (ws_ yX6_opens cX6_opens 1 (some .boolean)) rm_X6_opens (va_Pc [.ref (ad 200)] (PreG D (Ew D A) A ad S σ)) (QG D A ad S (some (.int r.2)) r.1) 0 0 A := by
  refine y_met (by decide) (Nat.le_of_ble_eq_true rfl) (fun p e s m below meth c ls Z hS hl => ?_)
  have hx := Z.1
  have hb := Z.2.1
  have hown := Z.2.2.2.2.2.1
  have hts := Z.2.2.2.2.2.2.1
  unfold f_X6_opens at h
  refine lv_aload_n hx hb dX6_opens_0 rfl (lv_at hl 0 rfl) ?_
  refine h_getI Z hS cls_14 hi0 (by decide) rfl fl_X6_229_14 dX6_opens_1 h (fun x1 h => ?_)
  refine lv_bipush (v := (6 : Int32)) hx hb dX6_opens_4 (by decide) ?_
  refine lv_icmp_ne (tgt := 15) hx hb dX6_opens_6 (by decide) (fun c2 => ?_) (fun c2 => ?_)
  · have h := if_f h c2
    refine lv_aload_n hx hb dX6_opens_15 rfl (lv_at hl 0 rfl) ?_
    refine lv_dup hx hb dX6_opens_16 rfl ?_
    refine h_getI Z hS cls_14 hi0 (by decide) rfl fl_X6_229_14 dX6_opens_17 h (fun x4 h => ?_)
    refine lv_iconst (v := (1 : Int32)) hx hb dX6_opens_20 (by decide) ?_
    refine lv_iadd hx hb dX6_opens_21 ?_
    refine h_putI Z hS cls_14 hi0 (by decide) rfl rfl rfl fl_X6_229_14 dX6_opens_22 h (fun σ5 H locs hS h => ?_)
    refine lv_aload_n hx hb dX6_opens_25 rfl (lv_at hl 0 rfl) ?_
    refine lv_dup hx hb dX6_opens_26 rfl ?_
    refine h_getI Z hS cls_14 hi0 (by decide) rfl fl_X6_220_14 dX6_opens_27 h (fun x6 h => ?_)
    refine lv_iconst (v := (1 : Int32)) hx hb dX6_opens_30 (by decide) ?_
    refine lv_iadd hx hb dX6_opens_31 ?_
    refine h_putI Z hS cls_14 hi0 (by decide) rfl rfl rfl fl_X6_220_14 dX6_opens_32 h (fun σ7 H locs hS h => ?_)
    refine lv_iconst (v := (1 : Int32)) hx hb dX6_opens_35 (by decide) ?_
    exact h_zretm Z hS dX6_opens_36 h
  · have h := if_t h c2
    refine lv_aload_n hx hb dX6_opens_9 rfl (lv_at hl 0 rfl) ?_
    refine h_cm hS h (fun z hz => h_rV (rest := []) Z hS hi0 rfl v_X6_232 (w_X6_bad hi0 hz) rfl rfl ⟨by decide, by decide⟩ rfl hl.1 rfl (Nat.le_of_ble_eq_true rfl) (Nat.zero_le _) (Nat.zero_le _) dX6_opens_10) (fun σ3 H locs hS h => ?_)
    refine lv_iconst (v := (0 : Int32)) hx hb dX6_opens_13 (by decide) ?_
    exact h_zretm Z hS dX6_opens_14 h
end
theorem dX6_closes_0 : decode cX6_closes 0 = .ok (.aload_n 0, 1) := by decide +kernel
theorem dX6_closes_1 : decode cX6_closes 1 = .ok (.getfield 223, 3) := by decide +kernel
theorem dX6_closes_4 : decode cX6_closes 4 = .ok (.iconst (-1), 1) := by decide +kernel
theorem dX6_closes_5 : decode cX6_closes 5 = .ok (.if_icmp .ne 15, 3) := by decide +kernel
theorem dX6_closes_8 : decode cX6_closes 8 = .ok (.aload_n 0, 1) := by decide +kernel
theorem dX6_closes_9 : decode cX6_closes 9 = .ok (.invokevirtual 235, 3) := by decide +kernel
theorem dX6_closes_12 : decode cX6_closes 12 = .ok (.iload_n 1, 1) := by decide +kernel
theorem dX6_closes_13 : decode cX6_closes 13 = .ok (.if_icmp .eq 7, 3) := by decide +kernel
theorem dX6_closes_16 : decode cX6_closes 16 = .ok (.aload_n 0, 1) := by decide +kernel
theorem dX6_closes_17 : decode cX6_closes 17 = .ok (.invokevirtual 232, 3) := by decide +kernel
theorem dX6_closes_20 : decode cX6_closes 20 = .ok (.aload_n 0, 1) := by decide +kernel
theorem dX6_closes_21 : decode cX6_closes 21 = .ok (.dup, 1) := by decide +kernel
theorem dX6_closes_22 : decode cX6_closes 22 = .ok (.getfield 220, 3) := by decide +kernel
theorem dX6_closes_25 : decode cX6_closes 25 = .ok (.iconst 1, 1) := by decide +kernel
theorem dX6_closes_26 : decode cX6_closes 26 = .ok (.iadd, 1) := by decide +kernel
theorem dX6_closes_27 : decode cX6_closes 27 = .ok (.putfield 220, 3) := by decide +kernel
theorem dX6_closes_30 : decode cX6_closes 30 = .ok (.aload_n 0, 1) := by decide +kernel
theorem dX6_closes_31 : decode cX6_closes 31 = .ok (.dup, 1) := by decide +kernel
theorem dX6_closes_32 : decode cX6_closes 32 = .ok (.getfield 229, 3) := by decide +kernel
theorem dX6_closes_35 : decode cX6_closes 35 = .ok (.iconst 1, 1) := by decide +kernel
theorem dX6_closes_36 : decode cX6_closes 36 = .ok (.isub, 1) := by decide +kernel
theorem dX6_closes_37 : decode cX6_closes 37 = .ok (.putfield 229, 3) := by decide +kernel
theorem dX6_closes_40 : decode cX6_closes 40 = .ok (.return_, 1) := by decide +kernel
abbrev rm_X6_closes : Room := k2_rm 1 20
section
variable {p : Program} {l : Launch} {e : Env} {s : State} {m : MethodId} {args : Array Value} {below : List Frame} {meth : Method} {c : Code} {D : gD} {A : Nat → Prop} {ad : Nat → Nat} {S : Nat → Nat × Nat} {σ : Mem}
set_option maxRecDepth 100000 in
set_option maxHeartbeats 4000000 in
theorem w_X6_closes {a1 : Int32} (hi0 : S 200 = (24, 0)) {r : Mem} (h : f_X6_closes σ a1 = some r) : Met l yX6_closes (ws_ yX6_closes cX6_closes 2 none) rm_X6_closes (va_Pc [.ref (ad 200), .int a1] (PreG D (Ew D A) A ad S σ)) (QG D A ad S none r) 0 0 A := by
  refine y_met (by decide) (Nat.le_of_ble_eq_true rfl) (fun p e s m below meth c ls Z hS hl => ?_)
  have hx := Z.1
  have hb := Z.2.1
  have hown := Z.2.2.2.2.2.1
  have hts := Z.2.2.2.2.2.2.1
  unfold f_X6_closes at h
  refine lv_aload_n hx hb dX6_closes_0 rfl (lv_at hl 0 rfl) ?_
  refine h_getI Z hS cls_14 hi0 (by decide) rfl fl_X6_223_14 dX6_closes_1 h (fun x1 h => ?_)
  refine lv_iconst (v := (-1 : Int32)) hx hb dX6_closes_4 (by decide) ?_
  obtain ⟨σ3, hp4, h⟩ := bnd_el h
  have K4 : ∀ (H : Heap) (locs : List Loc) (ls : Array Slot), St D A ad S σ3 s.heap H locs → lv_has ls 2 [(0, .ref (ad 200))] → W p l e rm_X6_closes s m ([.ref (ad 200), .int a1] : List Value).toArray below meth c H locs 0 0 (MQ below (QG D A ad S none r) ([.ref (ad 200), .int a1] : List Value).toArray s 0 0 A) (F0 m 20 ls []) := by
    intro H locs ls hS hl
    refine lv_aload_n hx hb dX6_closes_20 rfl (lv_at hl 0 rfl) ?_
    refine lv_dup hx hb dX6_closes_21 rfl ?_
    refine h_getI Z hS cls_14 hi0 (by decide) rfl fl_X6_220_14 dX6_closes_22 h (fun x5 h => ?_)
    refine lv_iconst (v := (1 : Int32)) hx hb dX6_closes_25 (by decide) ?_
    refine lv_iadd hx hb dX6_closes_26 ?_
    refine h_putI Z hS cls_14 hi0 (by decide) rfl rfl rfl fl_X6_220_14 dX6_closes_27 h (fun σ6 H locs hS h => ?_)
    refine lv_aload_n hx hb dX6_closes_30 rfl (lv_at hl 0 rfl) ?_
    refine lv_dup hx hb dX6_closes_31 rfl ?_
    refine h_getI Z hS cls_14 hi0 (by decide) rfl fl_X6_229_14 dX6_closes_32 h (fun x7 h => ?_)
    refine lv_iconst (v := (1 : Int32)) hx hb dX6_closes_35 (by decide) ?_
    refine lv_isub hx hb dX6_closes_36 ?_
    refine h_putI Z hS cls_14 hi0 (by decide) rfl rfl rfl fl_X6_229_14 dX6_closes_37 h (fun σ8 H locs hS h => ?_)
    exact h_vret Z hS dX6_closes_40 h
  clear h
  have h := hp4
  clear hp4
  refine lv_icmp_ne (tgt := 20) hx hb dX6_closes_5 (by decide) (fun c2 => ?_) (fun c2 => ?_)
  · have h := if_f h c2
    cases h
    exact K4 _ _ _ hS (lv_sub hl [0] rfl)
  · have h := if_t h c2
    refine lv_aload_n hx hb dX6_closes_8 rfl (lv_at hl 0 rfl) ?_
    refine h_cim hS h (fun z hz => h_rV (rest := []) Z hS hi0 rfl v_X6_235 (w_X6_look hi0 hz) rfl rfl ⟨by decide, by decide⟩ rfl hl.1 rfl (Nat.le_of_ble_eq_true rfl) (Nat.zero_le _) (Nat.zero_le _) dX6_closes_9) (fun σ9 x10 H locs hS h => ?_)
    refine lv_iload_n hx hb dX6_closes_12 rfl (lv_at hl 1 rfl) ?_
    refine lv_icmp_eq (tgt := 20) hx hb dX6_closes_13 (by decide) (fun c11 => ?_) (fun c11 => ?_)
    · have h := if_t h c11
      cases h
      exact K4 _ _ _ hS (lv_sub hl [0] rfl)
    · have h := if_f h c11
      refine lv_aload_n hx hb dX6_closes_16 rfl (lv_at hl 0 rfl) ?_
      refine h_cm hS h (fun z hz => h_rV (rest := []) Z hS hi0 rfl v_X6_232 (w_X6_bad hi0 hz) rfl rfl ⟨by decide, by decide⟩ rfl hl.1 rfl (Nat.le_of_ble_eq_true rfl) (Nat.zero_le _) (Nat.zero_le _) dX6_closes_17) (fun σ12 H locs hS h => ?_)
      cases h
      exact K4 _ _ _ hS (lv_sub hl [0] rfl)
end
theorem dX6_isLetter_0 : decode cX6_isLetter 0 = .ok (.iload_n 0, 1) := by decide +kernel
theorem dX6_isLetter_1 : decode cX6_isLetter 1 = .ok (.bipush 112, 2) := by decide +kernel
theorem dX6_isLetter_3 : decode cX6_isLetter 3 = .ok (.if_icmp .eq 33, 3) := by decide +kernel
theorem dX6_isLetter_6 : decode cX6_isLetter 6 = .ok (.iload_n 0, 1) := by decide +kernel
theorem dX6_isLetter_7 : decode cX6_isLetter 7 = .ok (.bipush 104, 2) := by decide +kernel
theorem dX6_isLetter_9 : decode cX6_isLetter 9 = .ok (.if_icmp .eq 27, 3) := by decide +kernel
theorem dX6_isLetter_12 : decode cX6_isLetter 12 = .ok (.iload_n 0, 1) := by decide +kernel
theorem dX6_isLetter_13 : decode cX6_isLetter 13 = .ok (.bipush 111, 2) := by decide +kernel
theorem dX6_isLetter_15 : decode cX6_isLetter 15 = .ok (.if_icmp .eq 21, 3) := by decide +kernel
theorem dX6_isLetter_18 : decode cX6_isLetter 18 = .ok (.iload_n 0, 1) := by decide +kernel
theorem dX6_isLetter_19 : decode cX6_isLetter 19 = .ok (.bipush 105, 2) := by decide +kernel
theorem dX6_isLetter_21 : decode cX6_isLetter 21 = .ok (.if_icmp .eq 15, 3) := by decide +kernel
theorem dX6_isLetter_24 : decode cX6_isLetter 24 = .ok (.iload_n 0, 1) := by decide +kernel
theorem dX6_isLetter_25 : decode cX6_isLetter 25 = .ok (.bipush 110, 2) := by decide +kernel
theorem dX6_isLetter_27 : decode cX6_isLetter 27 = .ok (.if_icmp .eq 9, 3) := by decide +kernel
theorem dX6_isLetter_30 : decode cX6_isLetter 30 = .ok (.iload_n 0, 1) := by decide +kernel
theorem dX6_isLetter_31 : decode cX6_isLetter 31 = .ok (.bipush 107, 2) := by decide +kernel
theorem dX6_isLetter_33 : decode cX6_isLetter 33 = .ok (.if_icmp .ne 7, 3) := by decide +kernel
theorem dX6_isLetter_36 : decode cX6_isLetter 36 = .ok (.iconst 1, 1) := by decide +kernel
theorem dX6_isLetter_37 : decode cX6_isLetter 37 = .ok (.goto 4, 3) := by decide +kernel
theorem dX6_isLetter_40 : decode cX6_isLetter 40 = .ok (.iconst 0, 1) := by decide +kernel
theorem dX6_isLetter_41 : decode cX6_isLetter 41 = .ok (.ireturn, 1) := by decide +kernel
abbrev rm_X6_isLetter : Room := k2_rm 0 0
section
variable {p : Program} {l : Launch} {e : Env} {s : State} {m : MethodId} {args : Array Value} {below : List Frame} {meth : Method} {c : Code} {D : gD} {A : Nat → Prop} {ad : Nat → Nat} {S : Nat → Nat × Nat} {σ : Mem}
set_option maxRecDepth 100000 in
set_option maxHeartbeats 4000000 in
theorem w_X6_isLetter {a1 : Int32} {r : Int32} (h : f_X6_isLetter σ a1 = some r) : Met l yX6_isLetter (ws_ yX6_isLetter cX6_isLetter 1 (some .boolean)) rm_X6_isLetter (va_Pc [.int a1] (PreG D (Ew D A) A ad S σ)) (QG D A ad S (some (.int r)) σ) 0 0 A := by
  refine y_met (by decide) (Nat.le_of_ble_eq_true rfl) (fun p e s m below meth c ls Z hS hl => ?_)
  have hx := Z.1
  have hb := Z.2.1
  have hown := Z.2.2.2.2.2.1
  have hts := Z.2.2.2.2.2.2.1
  unfold f_X6_isLetter at h
  refine lv_iload_n hx hb dX6_isLetter_0 rfl (lv_at hl 0 rfl) ?_
  refine lv_bipush (v := (112 : Int32)) hx hb dX6_isLetter_1 (by decide) ?_
  refine lv_icmp_eq (tgt := 36) hx hb dX6_isLetter_3 (by decide) (fun c1 => ?_) (fun c1 => ?_)
  · have h := if_t h c1
    refine lv_iconst (v := (1 : Int32)) hx hb dX6_isLetter_36 (by decide) ?_
    refine lv_goto (tgt := 41) hx hb dX6_isLetter_37 (by decide) ?_
    exact h_zret Z hS dX6_isLetter_41 h
  · have h := if_f h c1
    refine lv_iload_n hx hb dX6_isLetter_6 rfl (lv_at hl 0 rfl) ?_
    refine lv_bipush (v := (104 : Int32)) hx hb dX6_isLetter_7 (by decide) ?_
    refine lv_icmp_eq (tgt := 36) hx hb dX6_isLetter_9 (by decide) (fun c2 => ?_) (fun c2 => ?_)
    · have h := if_t h c2
      refine lv_iconst (v := (1 : Int32)) hx hb dX6_isLetter_36 (by decide) ?_
      refine lv_goto (tgt := 41) hx hb dX6_isLetter_37 (by decide) ?_
      exact h_zret Z hS dX6_isLetter_41 h
    · have h := if_f h c2
      refine lv_iload_n hx hb dX6_isLetter_12 rfl (lv_at hl 0 rfl) ?_
      refine lv_bipush (v := (111 : Int32)) hx hb dX6_isLetter_13 (by decide) ?_
      refine lv_icmp_eq (tgt := 36) hx hb dX6_isLetter_15 (by decide) (fun c3 => ?_) (fun c3 => ?_)
      · have h := if_t h c3
        refine lv_iconst (v := (1 : Int32)) hx hb dX6_isLetter_36 (by decide) ?_
        refine lv_goto (tgt := 41) hx hb dX6_isLetter_37 (by decide) ?_
        exact h_zret Z hS dX6_isLetter_41 h
      · have h := if_f h c3
        refine lv_iload_n hx hb dX6_isLetter_18 rfl (lv_at hl 0 rfl) ?_
        refine lv_bipush (v := (105 : Int32)) hx hb dX6_isLetter_19 (by decide) ?_
        refine lv_icmp_eq (tgt := 36) hx hb dX6_isLetter_21 (by decide) (fun c4 => ?_) (fun c4 => ?_)
        · have h := if_t h c4
          refine lv_iconst (v := (1 : Int32)) hx hb dX6_isLetter_36 (by decide) ?_
          refine lv_goto (tgt := 41) hx hb dX6_isLetter_37 (by decide) ?_
          exact h_zret Z hS dX6_isLetter_41 h
        · have h := if_f h c4
          refine lv_iload_n hx hb dX6_isLetter_24 rfl (lv_at hl 0 rfl) ?_
          refine lv_bipush (v := (110 : Int32)) hx hb dX6_isLetter_25 (by decide) ?_
          refine lv_icmp_eq (tgt := 36) hx hb dX6_isLetter_27 (by decide) (fun c5 => ?_) (fun c5 => ?_)
          · have h := if_t h c5
            refine lv_iconst (v := (1 : Int32)) hx hb dX6_isLetter_36 (by decide) ?_
            refine lv_goto (tgt := 41) hx hb dX6_isLetter_37 (by decide) ?_
            exact h_zret Z hS dX6_isLetter_41 h
          · have h := if_f h c5
            refine lv_iload_n hx hb dX6_isLetter_30 rfl (lv_at hl 0 rfl) ?_
            refine lv_bipush (v := (107 : Int32)) hx hb dX6_isLetter_31 (by decide) ?_
            refine lv_icmp_ne (tgt := 40) hx hb dX6_isLetter_33 (by decide) (fun c6 => ?_) (fun c6 => ?_)
            · have h := if_f h c6
              refine lv_iconst (v := (0 : Int32)) hx hb dX6_isLetter_40 (by decide) ?_
              exact h_zret Z hS dX6_isLetter_41 h
            · have h := if_t h c6
              refine lv_iconst (v := (1 : Int32)) hx hb dX6_isLetter_36 (by decide) ?_
              refine lv_goto (tgt := 41) hx hb dX6_isLetter_37 (by decide) ?_
              exact h_zret Z hS dX6_isLetter_41 h
end
theorem dX6_isDigit_0 : decode cX6_isDigit 0 = .ok (.iload_n 0, 1) := by decide +kernel
theorem dX6_isDigit_1 : decode cX6_isDigit 1 = .ok (.bipush 48, 2) := by decide +kernel
theorem dX6_isDigit_3 : decode cX6_isDigit 3 = .ok (.if_icmp .lt 13, 3) := by decide +kernel
theorem dX6_isDigit_6 : decode cX6_isDigit 6 = .ok (.iload_n 0, 1) := by decide +kernel
theorem dX6_isDigit_7 : decode cX6_isDigit 7 = .ok (.bipush 57, 2) := by decide +kernel
theorem dX6_isDigit_9 : decode cX6_isDigit 9 = .ok (.if_icmp .gt 7, 3) := by decide +kernel
theorem dX6_isDigit_12 : decode cX6_isDigit 12 = .ok (.iconst 1, 1) := by decide +kernel
theorem dX6_isDigit_13 : decode cX6_isDigit 13 = .ok (.goto 4, 3) := by decide +kernel
theorem dX6_isDigit_16 : decode cX6_isDigit 16 = .ok (.iconst 0, 1) := by decide +kernel
theorem dX6_isDigit_17 : decode cX6_isDigit 17 = .ok (.ireturn, 1) := by decide +kernel
abbrev rm_X6_isDigit : Room := k2_rm 0 0
section
variable {p : Program} {l : Launch} {e : Env} {s : State} {m : MethodId} {args : Array Value} {below : List Frame} {meth : Method} {c : Code} {D : gD} {A : Nat → Prop} {ad : Nat → Nat} {S : Nat → Nat × Nat} {σ : Mem}
set_option maxRecDepth 100000 in
set_option maxHeartbeats 4000000 in
theorem w_X6_isDigit {a1 : Int32} {r : Int32} (h : f_X6_isDigit σ a1 = some r) : Met l yX6_isDigit (ws_ yX6_isDigit cX6_isDigit 1 (some .boolean)) rm_X6_isDigit (va_Pc [.int a1] (PreG D (Ew D A) A ad S σ)) (QG D A ad S (some (.int r)) σ) 0 0 A := by
  refine y_met (by decide) (Nat.le_of_ble_eq_true rfl) (fun p e s m below meth c ls Z hS hl => ?_)
  have hx := Z.1
  have hb := Z.2.1
  have hown := Z.2.2.2.2.2.1
  have hts := Z.2.2.2.2.2.2.1
  unfold f_X6_isDigit at h
  refine lv_iload_n hx hb dX6_isDigit_0 rfl (lv_at hl 0 rfl) ?_
  refine lv_bipush (v := (48 : Int32)) hx hb dX6_isDigit_1 (by decide) ?_
  refine lv_icmp_lt (tgt := 16) hx hb dX6_isDigit_3 (by decide) (fun c1 => ?_) (fun c1 => ?_)
  · have h := if_t h c1
    refine lv_iconst (v := (0 : Int32)) hx hb dX6_isDigit_16 (by decide) ?_
    exact h_zret Z hS dX6_isDigit_17 h
  · have h := if_f h c1
    refine lv_iload_n hx hb dX6_isDigit_6 rfl (lv_at hl 0 rfl) ?_
    refine lv_bipush (v := (57 : Int32)) hx hb dX6_isDigit_7 (by decide) ?_
    refine lv_icmp_gt (tgt := 16) hx hb dX6_isDigit_9 (by decide) (fun c2 => ?_) (fun c2 => ?_)
    · have h := if_t h c2
      refine lv_iconst (v := (0 : Int32)) hx hb dX6_isDigit_16 (by decide) ?_
      exact h_zret Z hS dX6_isDigit_17 h
    · have h := if_f h c2
      refine lv_iconst (v := (1 : Int32)) hx hb dX6_isDigit_12 (by decide) ?_
      refine lv_goto (tgt := 17) hx hb dX6_isDigit_13 (by decide) ?_
      exact h_zret Z hS dX6_isDigit_17 h
end
