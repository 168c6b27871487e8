set_option maxRecDepth 100000
theorem dX6_arrange_0 : decode cX6_arrange 0 = .ok (.iload_n 1, 1) := by decide +kernel
theorem dX6_arrange_1 : decode cX6_arrange 1 = .ok (.aload_n 0, 1) := by decide +kernel
theorem dX6_arrange_2 : decode cX6_arrange 2 = .ok (.getfield 375, 3) := by decide +kernel
theorem dX6_arrange_5 : decode cX6_arrange 5 = .ok (.if_icmp .ne 58, 3) := by decide +kernel
theorem dX6_arrange_8 : decode cX6_arrange 8 = .ok (.aload_n 0, 1) := by decide +kernel
theorem dX6_arrange_9 : decode cX6_arrange 9 = .ok (.iload_n 3, 1) := by decide +kernel
theorem dX6_arrange_10 : decode cX6_arrange 10 = .ok (.invokevirtual 378, 3) := by decide +kernel
theorem dX6_arrange_13 : decode cX6_arrange 13 = .ok (.istore 4, 2) := by decide +kernel
theorem dX6_arrange_15 : decode cX6_arrange 15 = .ok (.iload 4, 2) := by decide +kernel
theorem dX6_arrange_17 : decode cX6_arrange 17 = .ok (.aload_n 0, 1) := by decide +kernel
theorem dX6_arrange_18 : decode cX6_arrange 18 = .ok (.getfield 381, 3) := by decide +kernel
theorem dX6_arrange_21 : decode cX6_arrange 21 = .ok (.if_icmp .le 41, 3) := by decide +kernel
theorem dX6_arrange_24 : decode cX6_arrange 24 = .ok (.aload_n 0, 1) := by decide +kernel
theorem dX6_arrange_25 : decode cX6_arrange 25 = .ok (.iload 4, 2) := by decide +kernel
theorem dX6_arrange_27 : decode cX6_arrange 27 = .ok (.putfield 381, 3) := by decide +kernel
theorem dX6_arrange_30 : decode cX6_arrange 30 = .ok (.iconst 0, 1) := by decide +kernel
theorem dX6_arrange_31 : decode cX6_arrange 31 = .ok (.istore 5, 2) := by decide +kernel
theorem dX6_arrange_33 : decode cX6_arrange 33 = .ok (.iload 5, 2) := by decide +kernel
theorem dX6_arrange_35 : decode cX6_arrange 35 = .ok (.aload_n 0, 1) := by decide +kernel
theorem dX6_arrange_36 : decode cX6_arrange 36 = .ok (.getfield 375, 3) := by decide +kernel
theorem dX6_arrange_39 : decode cX6_arrange 39 = .ok (.if_icmp .ge 23, 3) := by decide +kernel
theorem dX6_arrange_42 : decode cX6_arrange 42 = .ok (.aload_n 0, 1) := by decide +kernel
theorem dX6_arrange_43 : decode cX6_arrange 43 = .ok (.getfield 135, 3) := by decide +kernel
theorem dX6_arrange_46 : decode cX6_arrange 46 = .ok (.iload 5, 2) := by decide +kernel
theorem dX6_arrange_48 : decode cX6_arrange 48 = .ok (.aload_n 0, 1) := by decide +kernel
theorem dX6_arrange_49 : decode cX6_arrange 49 = .ok (.getfield 132, 3) := by decide +kernel
theorem dX6_arrange_52 : decode cX6_arrange 52 = .ok (.iload 5, 2) := by decide +kernel
theorem dX6_arrange_54 : decode cX6_arrange 54 = .ok (.iaload, 1) := by decide +kernel
theorem dX6_arrange_55 : decode cX6_arrange 55 = .ok (.iastore, 1) := by decide +kernel
theorem dX6_arrange_56 : decode cX6_arrange 56 = .ok (.iinc 5 1, 3) := by decide +kernel
theorem dX6_arrange_59 : decode cX6_arrange 59 = .ok (.goto (-26), 3) := by decide +kernel
theorem dX6_arrange_62 : decode cX6_arrange 62 = .ok (.return_, 1) := by decide +kernel
theorem dX6_arrange_63 : decode cX6_arrange 63 = .ok (.iconst 0, 1) := by decide +kernel
theorem dX6_arrange_64 : decode cX6_arrange 64 = .ok (.istore 4, 2) := by decide +kernel
theorem dX6_arrange_66 : decode cX6_arrange 66 = .ok (.iload 4, 2) := by decide +kernel
theorem dX6_arrange_68 : decode cX6_arrange 68 = .ok (.aload_n 0, 1) := by decide +kernel
theorem dX6_arrange_69 : decode cX6_arrange 69 = .ok (.getfield 375, 3) := by decide +kernel
theorem dX6_arrange_72 : decode cX6_arrange 72 = .ok (.if_icmp .ge 40, 3) := by decide +kernel
theorem dX6_arrange_75 : decode cX6_arrange 75 = .ok (.iload_n 2, 1) := by decide +kernel
theorem dX6_arrange_76 : decode cX6_arrange 76 = .ok (.iload 4, 2) := by decide +kernel
theorem dX6_arrange_78 : decode cX6_arrange 78 = .ok (.ishr, 1) := by decide +kernel
theorem dX6_arrange_79 : decode cX6_arrange 79 = .ok (.iconst 1, 1) := by decide +kernel
theorem dX6_arrange_80 : decode cX6_arrange 80 = .ok (.iand, 1) := by decide +kernel
theorem dX6_arrange_81 : decode cX6_arrange 81 = .ok (.ifCond .ne 25, 3) := by decide +kernel
theorem dX6_arrange_84 : decode cX6_arrange 84 = .ok (.aload_n 0, 1) := by decide +kernel
theorem dX6_arrange_85 : decode cX6_arrange 85 = .ok (.getfield 132, 3) := by decide +kernel
theorem dX6_arrange_88 : decode cX6_arrange 88 = .ok (.iload_n 1, 1) := by decide +kernel
theorem dX6_arrange_89 : decode cX6_arrange 89 = .ok (.iload 4, 2) := by decide +kernel
theorem dX6_arrange_91 : decode cX6_arrange 91 = .ok (.iastore, 1) := by decide +kernel
theorem dX6_arrange_92 : decode cX6_arrange 92 = .ok (.aload_n 0, 1) := by decide +kernel
theorem dX6_arrange_93 : decode cX6_arrange 93 = .ok (.iload_n 1, 1) := by decide +kernel
theorem dX6_arrange_94 : decode cX6_arrange 94 = .ok (.iconst 1, 1) := by decide +kernel
theorem dX6_arrange_95 : decode cX6_arrange 95 = .ok (.iadd, 1) := by decide +kernel
theorem dX6_arrange_96 : decode cX6_arrange 96 = .ok (.iload_n 2, 1) := by decide +kernel
theorem dX6_arrange_97 : decode cX6_arrange 97 = .ok (.iconst 1, 1) := by decide +kernel
theorem dX6_arrange_98 : decode cX6_arrange 98 = .ok (.iload 4, 2) := by decide +kernel
theorem dX6_arrange_100 : decode cX6_arrange 100 = .ok (.ishl, 1) := by decide +kernel
theorem dX6_arrange_101 : decode cX6_arrange 101 = .ok (.ior, 1) := by decide +kernel
theorem dX6_arrange_102 : decode cX6_arrange 102 = .ok (.iload_n 3, 1) := by decide +kernel
theorem dX6_arrange_103 : decode cX6_arrange 103 = .ok (.invokevirtual 384, 3) := by decide +kernel
theorem dX6_arrange_106 : decode cX6_arrange 106 = .ok (.iinc 4 1, 3) := by decide +kernel
theorem dX6_arrange_109 : decode cX6_arrange 109 = .ok (.goto (-43), 3) := by decide +kernel
theorem dX6_arrange_112 : decode cX6_arrange 112 = .ok (.return_, 1) := by decide +kernel
abbrev rm_X6_arrange_b (qf ql : Nat) : Room := k2_rm (qf + 6) (ql + 137)
section
variable {p : Program} {l : Launch} {e : Env} {s : State} {m : MethodId} {args : Array Value} {below : List Frame} {meth : Method} {c : Code} {D : gD} {A : Nat → Prop} {ad : Nat → Nat} {S : Nat → Nat × Nat} {σ : Mem}
set_option maxRecDepth 100000 in
set_option maxHeartbeats 4000000 in
theorem w_X6_arrange_b_L33 {rec : Mem → Int32 → Int32 → Int32 → Option Mem} {qf ql : Nat} (hrec : ∀ (σ : Mem) (a1 : Int32) (a2 : Int32) (a3 : Int32) (r : Mem), rec σ a1 a2 a3 = some r → Met l yX6_arrange (ws_ yX6_arrange cX6_arrange 6 none) (k2_rm qf ql) (va_Pc [.ref (ad 200), .int a1, .int a2, .int a3] (PreG D (Ew D A) A ad S σ)) (QG D A ad S none r) 0 0 A) (Z : Cz D (Ew D A) A cX6_arrange 6 none RX6 p s m args meth c) (hu0 : S 200 = (24, 0)) {r : Mem} {k62 : Mem → Option Mem}
    (hk62 : ∀ (σ : Mem)  (H : Heap) (locs : List Loc) (ls : Array Slot), St D A ad S σ s.heap H locs → lv_has ls 6 [] → k62 σ = some r → W p l e (rm_X6_arrange_b qf ql) s m args below meth c H locs 0 0 (MQ below (QG D A ad S none r) args s 0 0 A) (F0 m 62 ls [])) :
    ∀ (n : Nat) (σ : Mem) (v5 : Int32) (H : Heap) (locs : List Loc) (ls : Array Slot), St D A ad S σ s.heap H locs → lv_has ls 6 [(0, .ref (ad 200)), (5, .int v5)] → f_X6_arrange_b_L33 rec k62 n σ v5 = some r → W p l e (rm_X6_arrange_b qf ql) s m args below meth c H locs 0 0 (MQ below (QG D A ad S none r) args s 0 0 A) (F0 m 33 ls []) := by
  have hx := Z.1
  have hb := Z.2.1
  have hown := Z.2.2.2.2.2.1
  have hts := Z.2.2.2.2.2.2.1
  intro n
  induction n with
  | zero => intro σ v5 H locs ls hS hl h; cases h
  | succ n ih =>
    intro σ v5 H locs ls hS hl h
    unfold f_X6_arrange_b_L33 at h
    refine lv_iload hx hb dX6_arrange_33 (lv_at hl 1 rfl) ?_
    refine lv_aload_n hx hb dX6_arrange_35 rfl (lv_at hl 0 rfl) ?_
    refine h_getI Z hS cls_14 hu0 (by decide) rfl fl_X6_375_14 dX6_arrange_36 h (fun x8 h => ?_)
    refine lv_icmp_ge (tgt := 62) hx hb dX6_arrange_39 (by decide) (fun c9 => ?_) (fun c9 => ?_)
    · have h := if_t h c9
      exact hk62 _ _ _ _ hS (lv_sub hl [] rfl) h
    · have h := if_f h c9
      refine lv_aload_n hx hb dX6_arrange_42 rfl (lv_at hl 0 rfl) ?_
      refine h_getC (n := 53) (j := 253) (sh := (1, 6)) Z hS cls_14 hu0 (by decide) rfl rfl rfl fl_X6_135_14 dX6_arrange_43 (fun hc10 => ?_)
      refine lv_iload hx hb dX6_arrange_46 (lv_at hl 1 rfl) ?_
      refine lv_aload_n hx hb dX6_arrange_48 rfl (lv_at hl 0 rfl) ?_
      refine h_getC (n := 52) (j := 252) (sh := (1, 6)) Z hS cls_14 hu0 (by decide) rfl rfl rfl fl_X6_132_14 dX6_arrange_49 (fun hc11 => ?_)
      refine lv_iload hx hb dX6_arrange_52 (lv_at hl 1 rfl) ?_
      refine h_iald Z hS hc11 dX6_arrange_54 h (fun x12 h => ?_)
      refine h_iast Z hS hc10 dX6_arrange_55 h (fun σ13 H locs hS h => ?_)
      refine lv_iinc (v := (v5 + (1 : Int32))) (lv' := [(5, .int (v5 + (1 : Int32))), (0, .ref (ad 200))]) hx hb dX6_arrange_56 hl (k := 1) rfl rfl (by decide) rfl (fun ls hl => ?_)
      refine lv_goto (tgt := 33) hx hb dX6_arrange_59 (by decide) ?_
      exact ih _ _ _ _ _ hS (lv_sub hl [1, 0] rfl) h
set_option maxRecDepth 100000 in
set_option maxHeartbeats 4000000 in
theorem w_X6_arrange_b_L66 {rec : Mem → Int32 → Int32 → Int32 → Option Mem} {qf ql : Nat} (hrec : ∀ (σ : Mem) (a1 : Int32) (a2 : Int32) (a3 : Int32) (r : Mem), rec σ a1 a2 a3 = some r → Met l yX6_arrange (ws_ yX6_arrange cX6_arrange 6 none) (k2_rm qf ql) (va_Pc [.ref (ad 200), .int a1, .int a2, .int a3] (PreG D (Ew D A) A ad S σ)) (QG D A ad S none r) 0 0 A) (Z : Cz D (Ew D A) A cX6_arrange 6 none RX6 p s m args meth c) {u1 : Int32} {u2 : Int32} {u3 : Int32} (hu0 : S 200 = (24, 0)) {r : Mem} {k112 : Mem → Option Mem}
    (hk112 : ∀ (σ : Mem)  (H : Heap) (locs : List Loc) (ls : Array Slot), St D A ad S σ s.heap H locs → lv_has ls 6 [] → k112 σ = some r → W p l e (rm_X6_arrange_b qf ql) s m args below meth c H locs 0 0 (MQ below (QG D A ad S none r) args s 0 0 A) (F0 m 112 ls [])) :
    ∀ (n : Nat) (σ : Mem) (v4 : Int32) (H : Heap) (locs : List Loc) (ls : Array Slot), St D A ad S σ s.heap H locs → lv_has ls 6 [(0, .ref (ad 200)), (1, .int u1), (2, .int u2), (3, .int u3), (4, .int v4)] → f_X6_arrange_b_L66 rec k112 u1 u2 u3 n σ v4 = some r → W p l e (rm_X6_arrange_b qf ql) s m args below meth c H locs 0 0 (MQ below (QG D A ad S none r) args s 0 0 A) (F0 m 66 ls []) := by
  have hx := Z.1
  have hb := Z.2.1
  have hown := Z.2.2.2.2.2.1
  have hts := Z.2.2.2.2.2.2.1
  intro n
  induction n with
  | zero => intro σ v4 H locs ls hS hl h; cases h
  | succ n ih =>
    intro σ v4 H locs ls hS hl h
    unfold f_X6_arrange_b_L66 at h
    refine lv_iload hx hb dX6_arrange_66 (lv_at hl 4 rfl) ?_
    refine lv_aload_n hx hb dX6_arrange_68 rfl (lv_at hl 0 rfl) ?_
    refine h_getI Z hS cls_14 hu0 (by decide) rfl fl_X6_375_14 dX6_arrange_69 h (fun x15 h => ?_)
    refine lv_icmp_ge (tgt := 112) hx hb dX6_arrange_72 (by decide) (fun c16 => ?_) (fun c16 => ?_)
    · have h := if_t h c16
      exact hk112 _ _ _ _ hS (lv_sub hl [] rfl) h
    · have h := if_f h c16
      refine lv_iload_n hx hb dX6_arrange_75 rfl (lv_at hl 2 rfl) ?_
      refine lv_iload hx hb dX6_arrange_76 (lv_at hl 4 rfl) ?_
      refine lv_ishr hx hb dX6_arrange_78 ?_
      refine lv_iconst (v := (1 : Int32)) hx hb dX6_arrange_79 (by decide) ?_
      refine lv_iand hx hb dX6_arrange_80 ?_
      refine lv_if_ne (tgt := 106) hx hb dX6_arrange_81 (by decide) (fun c17 => ?_) (fun c17 => ?_)
      · have h := if_f h c17
        refine lv_iinc (v := (v4 + (1 : Int32))) (lv' := [(4, .int (v4 + (1 : Int32))), (0, .ref (ad 200)), (1, .int u1), (2, .int u2), (3, .int u3)]) hx hb dX6_arrange_106 hl (k := 4) rfl rfl (by decide) rfl (fun ls hl => ?_)
        refine lv_goto (tgt := 66) hx hb dX6_arrange_109 (by decide) ?_
        exact ih _ _ _ _ _ hS (lv_sub hl [1, 2, 3, 4, 0] rfl) h
      · have h := if_t h c17
        refine lv_aload_n hx hb dX6_arrange_84 rfl (lv_at hl 0 rfl) ?_
        refine h_getC (n := 52) (j := 252) (sh := (1, 6)) Z hS cls_14 hu0 (by decide) rfl rfl rfl fl_X6_132_14 dX6_arrange_85 (fun hc18 => ?_)
        refine lv_iload_n hx hb dX6_arrange_88 rfl (lv_at hl 1 rfl) ?_
        refine lv_iload hx hb dX6_arrange_89 (lv_at hl 4 rfl) ?_
        refine h_iast Z hS hc18 dX6_arrange_91 h (fun σ19 H locs hS h => ?_)
        refine lv_aload_n hx hb dX6_arrange_92 rfl (lv_at hl 0 rfl) ?_
        refine lv_iload_n hx hb dX6_arrange_93 rfl (lv_at hl 1 rfl) ?_
        refine lv_iconst (v := (1 : Int32)) hx hb dX6_arrange_94 (by decide) ?_
        refine lv_iadd hx hb dX6_arrange_95 ?_
        refine lv_iload_n hx hb dX6_arrange_96 rfl (lv_at hl 2 rfl) ?_
        refine lv_iconst (v := (1 : Int32)) hx hb dX6_arrange_97 (by decide) ?_
        refine lv_iload hx hb dX6_arrange_98 (lv_at hl 4 rfl) ?_
        refine lv_ishl hx hb dX6_arrange_100 ?_
        refine lv_ior hx hb dX6_arrange_101 ?_
        refine lv_iload_n hx hb dX6_arrange_102 rfl (lv_at hl 3 rfl) ?_
        refine h_cm hS h (fun z hz => h_rV (rest := []) Z hS hu0 rfl v_X6_384 (hrec _ _ _ _ _ hz) rfl rfl ⟨by show qf + 0 + 1 ≤ qf + 6; omega, by show 8 + (6 + 11) + (ql + 0) ≤ ql + 137; omega⟩ rfl hl.1 rfl (Nat.le_of_ble_eq_true rfl) (Nat.zero_le _) (Nat.zero_le _) dX6_arrange_103) (fun σ20 H locs hS h => ?_)
        refine lv_iinc (v := (v4 + (1 : Int32))) (lv' := [(4, .int (v4 + (1 : Int32))), (0, .ref (ad 200)), (1, .int u1), (2, .int u2), (3, .int u3)]) hx hb dX6_arrange_106 hl (k := 4) rfl rfl (by decide) rfl (fun ls hl => ?_)
        refine lv_goto (tgt := 66) hx hb dX6_arrange_109 (by decide) ?_
        exact ih _ _ _ _ _ hS (lv_sub hl [1, 2, 3, 4, 0] rfl) h
set_option maxRecDepth 100000 in
set_option maxHeartbeats 4000000 in
theorem w_X6_arrange_b {rec : Mem → Int32 → Int32 → Int32 → Option Mem} {qf ql : Nat} (hrec : ∀ (σ : Mem) (a1 : Int32) (a2 : Int32) (a3 : Int32) (r : Mem), rec σ a1 a2 a3 = some r → Met l yX6_arrange (ws_ yX6_arrange cX6_arrange 6 none) (k2_rm qf ql) (va_Pc [.ref (ad 200), .int a1, .int a2, .int a3] (PreG D (Ew D A) A ad S σ)) (QG D A ad S none r) 0 0 A) {a1 : Int32} {a2 : Int32} {a3 : Int32} (hi0 : S 200 = (24, 0)) {r : Mem} (h : f_X6_arrange_b rec σ a1 a2 a3 = some r) : Met l yX6_arrange (ws_ yX6_arrange cX6_arrange 6 none) (rm_X6_arrange_b qf ql) (va_Pc [.ref (ad 200), .int a1, .int a2, .int a3] (PreG D (Ew D A) A ad S σ)) (QG D A ad S none r) 0 0 A := by
  refine y_met (by decide) (Nat.le_of_ble_eq_true rfl) (fun p e s m below meth c ls Z hS hl => ?_)
  have hx := Z.1
  have hb := Z.2.1
  have hown := Z.2.2.2.2.2.1
  have hts := Z.2.2.2.2.2.2.1
  unfold f_X6_arrange_b at h
  refine lv_iload_n hx hb dX6_arrange_0 rfl (lv_at hl 1 rfl) ?_
  refine lv_aload_n hx hb dX6_arrange_1 rfl (lv_at hl 0 rfl) ?_
  refine h_getI Z hS cls_14 hi0 (by decide) rfl fl_X6_375_14 dX6_arrange_2 h (fun x1 h => ?_)
  refine lv_icmp_ne (tgt := 63) hx hb dX6_arrange_5 (by decide) (fun c2 => ?_) (fun c2 => ?_)
  · have h := if_f h c2
    refine lv_iconst (v := (0 : Int32)) hx hb dX6_arrange_63 (by decide) ?_
    refine lv_istore (lv' := [(4, .int (0 : Int32)), (0, .ref (ad 200)), (1, .int a1), (2, .int a2), (3, .int a3)]) hx hb dX6_arrange_64 hl (by decide) rfl (fun ls hl => ?_)
    refine w_X6_arrange_b_L66 hrec Z hi0 (fun σ21 H locs ls hS hl h => ?_) FU _ _ _ _ _ hS (lv_sub hl [1, 2, 3, 4, 0] rfl) h
    exact h_vret Z hS dX6_arrange_112 h
  · have h := if_t h c2
    refine lv_aload_n hx hb dX6_arrange_8 rfl (lv_at hl 0 rfl) ?_
    refine lv_iload_n hx hb dX6_arrange_9 rfl (lv_at hl 3 rfl) ?_
    refine h_cim hS h (fun z hz => h_rV (rest := []) Z hS hi0 rfl v_X6_378 (w_X6_lasts hi0 hz) rfl rfl ⟨by show 5 + 1 ≤ qf + 6; omega, by show 8 + (7 + 11) + (111) ≤ ql + 137; omega⟩ rfl hl.1 rfl (Nat.le_of_ble_eq_true rfl) (Nat.zero_le _) (Nat.zero_le _) dX6_arrange_10) (fun σ3 x4 H locs hS h => ?_)
    refine lv_istore (lv' := [(4, .int x4), (0, .ref (ad 200)), (1, .int a1), (2, .int a2), (3, .int a3)]) hx hb dX6_arrange_13 hl (by decide) rfl (fun ls hl => ?_)
    refine lv_iload hx hb dX6_arrange_15 (lv_at hl 0 rfl) ?_
    refine lv_aload_n hx hb dX6_arrange_17 rfl (lv_at hl 1 rfl) ?_
    refine h_getI Z hS cls_14 hi0 (by decide) rfl fl_X6_381_14 dX6_arrange_18 h (fun x5 h => ?_)
    refine lv_icmp_le (tgt := 62) hx hb dX6_arrange_21 (by decide) (fun c6 => ?_) (fun c6 => ?_)
    · have h := if_t h c6
      exact h_vret Z hS dX6_arrange_62 h
    · have h := if_f h c6
      refine lv_aload_n hx hb dX6_arrange_24 rfl (lv_at hl 1 rfl) ?_
      refine lv_iload hx hb dX6_arrange_25 (lv_at hl 0 rfl) ?_
      refine h_putI Z hS cls_14 hi0 (by decide) rfl rfl rfl fl_X6_381_14 dX6_arrange_27 h (fun σ7 H locs hS h => ?_)
      refine lv_iconst (v := (0 : Int32)) hx hb dX6_arrange_30 (by decide) ?_
      refine lv_istore (lv' := [(5, .int (0 : Int32)), (4, .int x4), (0, .ref (ad 200)), (1, .int a1), (2, .int a2), (3, .int a3)]) hx hb dX6_arrange_31 hl (by decide) rfl (fun ls hl => ?_)
      refine w_X6_arrange_b_L33 hrec Z hi0 (fun σ14 H locs ls hS hl h => ?_) FU _ _ _ _ _ hS (lv_sub hl [2, 0] rfl) h
      exact h_vret Z hS dX6_arrange_62 h
def rmr_X6_arrange : Nat → Nat × Nat
 | 0 => (0, 0)
 | d + 1 => ((rmr_X6_arrange d).1 + 6, (rmr_X6_arrange d).2 + 137)
theorem w_X6_arrange (hi0 : S 200 = (24, 0)) : ∀ (d : Nat) (σ : Mem) (a1 : Int32) (a2 : Int32) (a3 : Int32) (r : Mem), f_X6_arrange d σ a1 a2 a3 = some r → Met l yX6_arrange (ws_ yX6_arrange cX6_arrange 6 none) (k2_rm (rmr_X6_arrange d).1 (rmr_X6_arrange d).2) (va_Pc [.ref (ad 200), .int a1, .int a2, .int a3] (PreG D (Ew D A) A ad S σ)) (QG D A ad S none r) 0 0 A := by
  intro d
  induction d with
  | zero => intro σ a1 a2 a3 r h; cases h
  | succ d ih => intro σ a1 a2 a3 r h; exact w_X6_arrange_b (qf := (rmr_X6_arrange d).1) (ql := (rmr_X6_arrange d).2) ih hi0 h
end
theorem dX6_order_0 : decode cX6_order 0 = .ok (.iload_n 1, 1) := by decide +kernel
theorem dX6_order_1 : decode cX6_order 1 = .ok (.iconst 0, 1) := by decide +kernel
theorem dX6_order_2 : decode cX6_order 2 = .ok (.ldc_w 329, 3) := by decide +kernel
theorem dX6_order_5 : decode cX6_order 5 = .ok (.invokestatic 161, 3) := by decide +kernel
theorem dX6_order_8 : decode cX6_order 8 = .ok (.ifCond .eq 31, 3) := by decide +kernel
theorem dX6_order_11 : decode cX6_order 11 = .ok (.iload_n 2, 1) := by decide +kernel
theorem dX6_order_12 : decode cX6_order 12 = .ok (.iconst (-1), 1) := by decide +kernel
theorem dX6_order_13 : decode cX6_order 13 = .ok (.aload_n 0, 1) := by decide +kernel
theorem dX6_order_14 : decode cX6_order 14 = .ok (.getfield 375, 3) := by decide +kernel
theorem dX6_order_17 : decode cX6_order 17 = .ok (.iconst 1, 1) := by decide +kernel
theorem dX6_order_18 : decode cX6_order 18 = .ok (.isub, 1) := by decide +kernel
theorem dX6_order_19 : decode cX6_order 19 = .ok (.invokestatic 161, 3) := by decide +kernel
theorem dX6_order_22 : decode cX6_order 22 = .ok (.ifCond .eq 17, 3) := by decide +kernel
theorem dX6_order_25 : decode cX6_order 25 = .ok (.aload_n 0, 1) := by decide +kernel
theorem dX6_order_26 : decode cX6_order 26 = .ok (.getfield 375, 3) := by decide +kernel
theorem dX6_order_29 : decode cX6_order 29 = .ok (.ifCond .eq 10, 3) := by decide +kernel
theorem dX6_order_32 : decode cX6_order 32 = .ok (.aload_n 0, 1) := by decide +kernel
theorem dX6_order_33 : decode cX6_order 33 = .ok (.getfield 319, 3) := by decide +kernel
theorem dX6_order_36 : decode cX6_order 36 = .ok (.ifCond .ne 5, 3) := by decide +kernel
theorem dX6_order_39 : decode cX6_order 39 = .ok (.iconst (-1), 1) := by decide +kernel
theorem dX6_order_40 : decode cX6_order 40 = .ok (.ireturn, 1) := by decide +kernel
theorem dX6_order_41 : decode cX6_order 41 = .ok (.aload_n 0, 1) := by decide +kernel
theorem dX6_order_42 : decode cX6_order 42 = .ok (.iconst (-1), 1) := by decide +kernel
theorem dX6_order_43 : decode cX6_order 43 = .ok (.putfield 381, 3) := by decide +kernel
theorem dX6_order_46 : decode cX6_order 46 = .ok (.aload_n 0, 1) := by decide +kernel
theorem dX6_order_47 : decode cX6_order 47 = .ok (.iconst 0, 1) := by decide +kernel
theorem dX6_order_48 : decode cX6_order 48 = .ok (.iconst 0, 1) := by decide +kernel
theorem dX6_order_49 : decode cX6_order 49 = .ok (.iload_n 1, 1) := by decide +kernel
theorem dX6_order_50 : decode cX6_order 50 = .ok (.invokevirtual 384, 3) := by decide +kernel
theorem dX6_order_53 : decode cX6_order 53 = .ok (.iload_n 2, 1) := by decide +kernel
theorem dX6_order_54 : decode cX6_order 54 = .ok (.iconst (-1), 1) := by decide +kernel
theorem dX6_order_55 : decode cX6_order 55 = .ok (.if_icmp .ne 10, 3) := by decide +kernel
theorem dX6_order_58 : decode cX6_order 58 = .ok (.aload_n 0, 1) := by decide +kernel
theorem dX6_order_59 : decode cX6_order 59 = .ok (.getfield 381, 3) := by decide +kernel
theorem dX6_order_62 : decode cX6_order 62 = .ok (.goto 9, 3) := by decide +kernel
theorem dX6_order_65 : decode cX6_order 65 = .ok (.aload_n 0, 1) := by decide +kernel
theorem dX6_order_66 : decode cX6_order 66 = .ok (.getfield 135, 3) := by decide +kernel
theorem dX6_order_69 : decode cX6_order 69 = .ok (.iload_n 2, 1) := by decide +kernel
theorem dX6_order_70 : decode cX6_order 70 = .ok (.iaload, 1) := by decide +kernel
theorem dX6_order_71 : decode cX6_order 71 = .ok (.ireturn, 1) := by decide +kernel
abbrev rm_X6_order : Room := k2_rm 49 1121
section
variable {p : Program} {l : Launch} {e : Env} {s : State} {m : MethodId} {args : Array Value} {below : List Frame} {meth : Method} {c : Code} {D : gD} {A : Nat → Prop} {ad : Nat → Nat} {S : Nat → Nat × Nat} {σ : Mem}
set_option maxRecDepth 100000 in
set_option maxHeartbeats 4000000 in
theorem w_X6_order {a1 : Int32} {a2 : Int32} (hi0 : S 200 = (24, 0)) {r : (Mem × Int32)} (h : f_X6_order σ a1 a2 = some r) : Met l yX6_order (ws_ yX6_order cX6_order 3 (some .int)) rm_X6_order (va_Pc [.ref (ad 200), .int a1, .int a2] (PreG D (Ew D A) A ad S σ)) (QG D A ad S (some (.int r.2)) r.1) 0 0 A := by
  refine y_met (by decide) (Nat.le_of_ble_eq_true rfl) (fun p e s m below meth c ls Z hS hl => ?_)
  have hx := Z.1
  have hb := Z.2.1
  have hown := Z.2.2.2.2.2.1
  have hts := Z.2.2.2.2.2.2.1
  unfold f_X6_order at h
  refine lv_iload_n hx hb dX6_order_0 rfl (lv_at hl 1 rfl) ?_
  refine lv_iconst (v := (0 : Int32)) hx hb dX6_order_1 (by decide) ?_
  refine lv_ldcw (v := (1000000 : Int32)) hx hb hown (hts _ q1607) dX6_order_2 ?_
  refine h_ci hS h (fun z hz => h_rS (rest := []) Z hS v_X6_161 (w_X6_in hz) rfl rfl ⟨by decide, by decide⟩ rfl hl.1 rfl (Nat.le_of_ble_eq_true rfl) (Nat.zero_le _) (Nat.zero_le _) dX6_order_5) (fun x1 H locs hS h => ?_)
  refine lv_if_eq (tgt := 39) hx hb dX6_order_8 (by decide) (fun c2 => ?_) (fun c2 => ?_)
  · have h := if_t h c2
    refine lv_iconst (v := (-1 : Int32)) hx hb dX6_order_39 (by decide) ?_
    exact h_iretm Z hS dX6_order_40 h
  · have h := if_f h c2
    refine lv_iload_n hx hb dX6_order_11 rfl (lv_at hl 2 rfl) ?_
    refine lv_iconst (v := (-1 : Int32)) hx hb dX6_order_12 (by decide) ?_
    refine lv_aload_n hx hb dX6_order_13 rfl (lv_at hl 0 rfl) ?_
    refine h_getI Z hS cls_14 hi0 (by decide) rfl fl_X6_375_14 dX6_order_14 h (fun x3 h => ?_)
    refine lv_iconst (v := (1 : Int32)) hx hb dX6_order_17 (by decide) ?_
    refine lv_isub hx hb dX6_order_18 ?_
    refine h_ci hS h (fun z hz => h_rS (rest := []) Z hS v_X6_161 (w_X6_in hz) rfl rfl ⟨by decide, by decide⟩ rfl hl.1 rfl (Nat.le_of_ble_eq_true rfl) (Nat.zero_le _) (Nat.zero_le _) dX6_order_19) (fun x4 H locs hS h => ?_)
    refine lv_if_eq (tgt := 39) hx hb dX6_order_22 (by decide) (fun c5 => ?_) (fun c5 => ?_)
    · have h := if_t h c5
      refine lv_iconst (v := (-1 : Int32)) hx hb dX6_order_39 (by decide) ?_
      exact h_iretm Z hS dX6_order_40 h
    · have h := if_f h c5
      refine lv_aload_n hx hb dX6_order_25 rfl (lv_at hl 0 rfl) ?_
      refine h_getI Z hS cls_14 hi0 (by decide) rfl fl_X6_375_14 dX6_order_26 h (fun x6 h => ?_)
      refine lv_if_eq (tgt := 39) hx hb dX6_order_29 (by decide) (fun c7 => ?_) (fun c7 => ?_)
      · have h := if_t h c7
        refine lv_iconst (v := (-1 : Int32)) hx hb dX6_order_39 (by decide) ?_
        exact h_iretm Z hS dX6_order_40 h
      · have h := if_f h c7
        refine lv_aload_n hx hb dX6_order_32 rfl (lv_at hl 0 rfl) ?_
        refine h_getI Z hS cls_14 hi0 (by decide) rfl fl_X6_319_14 dX6_order_33 h (fun x8 h => ?_)
        refine lv_if_ne (tgt := 41) hx hb dX6_order_36 (by decide) (fun c9 => ?_) (fun c9 => ?_)
        · have h := if_f h c9
          refine lv_aload_n hx hb dX6_order_41 rfl (lv_at hl 0 rfl) ?_
          refine lv_iconst (v := (-1 : Int32)) hx hb dX6_order_42 (by decide) ?_
          refine h_putI Z hS cls_14 hi0 (by decide) rfl rfl rfl fl_X6_381_14 dX6_order_43 h (fun σ10 H locs hS h => ?_)
          refine lv_aload_n hx hb dX6_order_46 rfl (lv_at hl 0 rfl) ?_
          refine lv_iconst (v := (0 : Int32)) hx hb dX6_order_47 (by decide) ?_
          refine lv_iconst (v := (0 : Int32)) hx hb dX6_order_48 (by decide) ?_
          refine lv_iload_n hx hb dX6_order_49 rfl (lv_at hl 1 rfl) ?_
          refine h_cm hS h (fun z hz => h_rV (rest := []) Z hS hi0 rfl v_X6_384 (w_X6_arrange hi0 8 _ _ _ _ _ hz) rfl rfl ⟨by decide, by decide⟩ rfl hl.1 rfl (Nat.le_of_ble_eq_true rfl) (Nat.zero_le _) (Nat.zero_le _) dX6_order_50) (fun σ11 H locs hS h => ?_)
          refine lv_iload_n hx hb dX6_order_53 rfl (lv_at hl 2 rfl) ?_
          refine lv_iconst (v := (-1 : Int32)) hx hb dX6_order_54 (by decide) ?_
          refine lv_icmp_ne (tgt := 65) hx hb dX6_order_55 (by decide) (fun c12 => ?_) (fun c12 => ?_)
          · have h := if_f h c12
            refine lv_aload_n hx hb dX6_order_65 rfl (lv_at hl 0 rfl) ?_
            refine h_getC (n := 53) (j := 253) (sh := (1, 6)) Z hS cls_14 hi0 (by decide) rfl rfl rfl fl_X6_135_14 dX6_order_66 (fun hc14 => ?_)
            refine lv_iload_n hx hb dX6_order_69 rfl (lv_at hl 2 rfl) ?_
            refine h_iald Z hS hc14 dX6_order_70 h (fun x15 h => ?_)
            exact h_iretm Z hS dX6_order_71 h
          · have h := if_t h c12
            refine lv_aload_n hx hb dX6_order_58 rfl (lv_at hl 0 rfl) ?_
            refine h_getI Z hS cls_14 hi0 (by decide) rfl fl_X6_381_14 dX6_order_59 h (fun x13 h => ?_)
            refine lv_goto (tgt := 71) hx hb dX6_order_62 (by decide) ?_
            exact h_iretm Z hS dX6_order_71 h
        · have h := if_t h c9
          refine lv_iconst (v := (-1 : Int32)) hx hb dX6_order_39 (by decide) ?_
          exact h_iretm Z hS dX6_order_40 h
end
theorem dX6_cost_0 : decode cX6_cost 0 = .ok (.iload_n 1, 1) := by decide +kernel
theorem dX6_cost_1 : decode cX6_cost 1 = .ok (.iconst (-1), 1) := by decide +kernel
theorem dX6_cost_2 : decode cX6_cost 2 = .ok (.if_icmp .ne 23, 3) := by decide +kernel
theorem dX6_cost_5 : decode cX6_cost 5 = .ok (.iload_n 2, 1) := by decide +kernel
theorem dX6_cost_6 : decode cX6_cost 6 = .ok (.iconst 0, 1) := by decide +kernel
theorem dX6_cost_7 : decode cX6_cost 7 = .ok (.sipush 10000, 3) := by decide +kernel
theorem dX6_cost_10 : decode cX6_cost 10 = .ok (.invokestatic 161, 3) := by decide +kernel
theorem dX6_cost_13 : decode cX6_cost 13 = .ok (.ifCond .ne 5, 3) := by decide +kernel
theorem dX6_cost_16 : decode cX6_cost 16 = .ok (.iconst 0, 1) := by decide +kernel
theorem dX6_cost_17 : decode cX6_cost 17 = .ok (.ireturn, 1) := by decide +kernel
theorem dX6_cost_18 : decode cX6_cost 18 = .ok (.aload_n 0, 1) := by decide +kernel
theorem dX6_cost_19 : decode cX6_cost 19 = .ok (.iload_n 2, 1) := by decide +kernel
theorem dX6_cost_20 : decode cX6_cost 20 = .ok (.putfield 387, 3) := by decide +kernel
theorem dX6_cost_23 : decode cX6_cost 23 = .ok (.iconst 1, 1) := by decide +kernel
theorem dX6_cost_24 : decode cX6_cost 24 = .ok (.ireturn, 1) := by decide +kernel
theorem dX6_cost_25 : decode cX6_cost 25 = .ok (.iload_n 1, 1) := by decide +kernel
theorem dX6_cost_26 : decode cX6_cost 26 = .ok (.iconst 0, 1) := by decide +kernel
theorem dX6_cost_27 : decode cX6_cost 27 = .ok (.bipush 19, 2) := by decide +kernel
theorem dX6_cost_29 : decode cX6_cost 29 = .ok (.invokestatic 161, 3) := by decide +kernel
theorem dX6_cost_32 : decode cX6_cost 32 = .ok (.ifCond .eq 14, 3) := by decide +kernel
theorem dX6_cost_35 : decode cX6_cost 35 = .ok (.iload_n 2, 1) := by decide +kernel
theorem dX6_cost_36 : decode cX6_cost 36 = .ok (.iconst 0, 1) := by decide +kernel
theorem dX6_cost_37 : decode cX6_cost 37 = .ok (.sipush 1000, 3) := by decide +kernel
theorem dX6_cost_40 : decode cX6_cost 40 = .ok (.invokestatic 161, 3) := by decide +kernel
theorem dX6_cost_43 : decode cX6_cost 43 = .ok (.ifCond .ne 5, 3) := by decide +kernel
theorem dX6_cost_46 : decode cX6_cost 46 = .ok (.iconst 0, 1) := by decide +kernel
theorem dX6_cost_47 : decode cX6_cost 47 = .ok (.ireturn, 1) := by decide +kernel
theorem dX6_cost_48 : decode cX6_cost 48 = .ok (.aload_n 0, 1) := by decide +kernel
theorem dX6_cost_49 : decode cX6_cost 49 = .ok (.getfield 138, 3) := by decide +kernel
theorem dX6_cost_52 : decode cX6_cost 52 = .ok (.iload_n 1, 1) := by decide +kernel
theorem dX6_cost_53 : decode cX6_cost 53 = .ok (.iload_n 2, 1) := by decide +kernel
theorem dX6_cost_54 : decode cX6_cost 54 = .ok (.iastore, 1) := by decide +kernel
theorem dX6_cost_55 : decode cX6_cost 55 = .ok (.iconst 1, 1) := by decide +kernel
theorem dX6_cost_56 : decode cX6_cost 56 = .ok (.ireturn, 1) := by decide +kernel
abbrev rm_X6_cost : Room := k2_rm 1 22
section
variable {p : Program} {l : Launch} {e : Env} {s : State} {m : MethodId} {args : Array Value} {below : List Frame} {meth : Method} {c : Code} {D : gD} {A : Nat → Prop} {ad : Nat → Nat} {S : Nat → Nat × Nat} {σ : Mem}
set_option maxRecDepth 100000 in
set_option maxHeartbeats 4000000 in
theorem w_X6_cost {a1 : Int32} {a2 : Int32} (hi0 : S 200 = (24, 0)) {r : (Mem × Int32)} (h : f_X6_cost σ a1 a2 = some r) : Met l yX6_cost (ws_ yX6_cost cX6_cost 3 (some .boolean)) rm_X6_cost (va_Pc [.ref (ad 200), .int a1, .int a2] (PreG D (Ew D A) A ad S σ)) (QG D A ad S (some (.int r.2)) r.1) 0 0 A := by
  refine y_met (by decide) (Nat.le_of_ble_eq_true rfl) (fun p e s m below meth c ls Z hS hl => ?_)
  have hx := Z.1
  have hb := Z.2.1
  have hown := Z.2.2.2.2.2.1
  have hts := Z.2.2.2.2.2.2.1
  unfold f_X6_cost at h
  refine lv_iload_n hx hb dX6_cost_0 rfl (lv_at hl 1 rfl) ?_
  refine lv_iconst (v := (-1 : Int32)) hx hb dX6_cost_1 (by decide) ?_
  refine lv_icmp_ne (tgt := 25) hx hb dX6_cost_2 (by decide) (fun c1 => ?_) (fun c1 => ?_)
  · have h := if_f h c1
    refine lv_iload_n hx hb dX6_cost_25 rfl (lv_at hl 1 rfl) ?_
    refine lv_iconst (v := (0 : Int32)) hx hb dX6_cost_26 (by decide) ?_
    refine lv_bipush (v := (19 : Int32)) hx hb dX6_cost_27 (by decide) ?_
    refine h_ci hS h (fun z hz => h_rS (rest := []) Z hS v_X6_161 (w_X6_in hz) rfl rfl ⟨by decide, by decide⟩ rfl hl.1 rfl (Nat.le_of_ble_eq_true rfl) (Nat.zero_le _) (Nat.zero_le _) dX6_cost_29) (fun x5 H locs hS h => ?_)
    refine lv_if_eq (tgt := 46) hx hb dX6_cost_32 (by decide) (fun c6 => ?_) (fun c6 => ?_)
    · have h := if_t h c6
      refine lv_iconst (v := (0 : Int32)) hx hb dX6_cost_46 (by decide) ?_
      exact h_zretm Z hS dX6_cost_47 h
    · have h := if_f h c6
      refine lv_iload_n hx hb dX6_cost_35 rfl (lv_at hl 2 rfl) ?_
      refine lv_iconst (v := (0 : Int32)) hx hb dX6_cost_36 (by decide) ?_
      refine lv_sipush (v := (1000 : Int32)) hx hb dX6_cost_37 (by decide) ?_
      refine h_ci hS h (fun z hz => h_rS (rest := []) Z hS v_X6_161 (w_X6_in hz) rfl rfl ⟨by decide, by decide⟩ rfl hl.1 rfl (Nat.le_of_ble_eq_true rfl) (Nat.zero_le _) (Nat.zero_le _) dX6_cost_40) (fun x7 H locs hS h => ?_)
      refine lv_if_ne (tgt := 48) hx hb dX6_cost_43 (by decide) (fun c8 => ?_) (fun c8 => ?_)
      · have h := if_f h c8
        refine lv_aload_n hx hb dX6_cost_48 rfl (lv_at hl 0 rfl) ?_
        refine h_getC (n := 56) (j := 256) (sh := (1, 20)) Z hS cls_14 hi0 (by decide) rfl rfl rfl fl_X6_138_14 dX6_cost_49 (fun hc9 => ?_)
        refine lv_iload_n hx hb dX6_cost_52 rfl (lv_at hl 1 rfl) ?_
        refine lv_iload_n hx hb dX6_cost_53 rfl (lv_at hl 2 rfl) ?_
        refine h_iast Z hS hc9 dX6_cost_54 h (fun σ10 H locs hS h => ?_)
        refine lv_iconst (v := (1 : Int32)) hx hb dX6_cost_55 (by decide) ?_
        exact h_zretm Z hS dX6_cost_56 h
      · have h := if_t h c8
        refine lv_iconst (v := (0 : Int32)) hx hb dX6_cost_46 (by decide) ?_
        exact h_zretm Z hS dX6_cost_47 h
  · have h := if_t h c1
    refine lv_iload_n hx hb dX6_cost_5 rfl (lv_at hl 2 rfl) ?_
    refine lv_iconst (v := (0 : Int32)) hx hb dX6_cost_6 (by decide) ?_
    refine lv_sipush (v := (10000 : Int32)) hx hb dX6_cost_7 (by decide) ?_
    refine h_ci hS h (fun z hz => h_rS (rest := []) Z hS v_X6_161 (w_X6_in hz) rfl rfl ⟨by decide, by decide⟩ rfl hl.1 rfl (Nat.le_of_ble_eq_true rfl) (Nat.zero_le _) (Nat.zero_le _) dX6_cost_10) (fun x2 H locs hS h => ?_)
    refine lv_if_ne (tgt := 18) hx hb dX6_cost_13 (by decide) (fun c3 => ?_) (fun c3 => ?_)
    · have h := if_f h c3
      refine lv_aload_n hx hb dX6_cost_18 rfl (lv_at hl 0 rfl) ?_
      refine lv_iload_n hx hb dX6_cost_19 rfl (lv_at hl 2 rfl) ?_
      refine h_putI Z hS cls_14 hi0 (by decide) rfl rfl rfl fl_X6_387_14 dX6_cost_20 h (fun σ4 H locs hS h => ?_)
      refine lv_iconst (v := (1 : Int32)) hx hb dX6_cost_23 (by decide) ?_
      exact h_zretm Z hS dX6_cost_24 h
    · have h := if_t h c3
      refine lv_iconst (v := (0 : Int32)) hx hb dX6_cost_16 (by decide) ?_
      exact h_zretm Z hS dX6_cost_17 h
end
theorem dX6_from_0 : decode cX6_from 0 = .ok (.aload_n 0, 1) := by decide +kernel
theorem dX6_from_1 : decode cX6_from 1 = .ok (.getfield 138, 3) := by decide +kernel
theorem dX6_from_4 : decode cX6_from 4 = .ok (.bipush 19, 2) := by decide +kernel
theorem dX6_from_6 : decode cX6_from 6 = .ok (.iload_n 2, 1) := by decide +kernel
theorem dX6_from_7 : decode cX6_from 7 = .ok (.invokestatic 325, 3) := by decide +kernel
theorem dX6_from_10 : decode cX6_from 10 = .ok (.iaload, 1) := by decide +kernel
theorem dX6_from_11 : decode cX6_from 11 = .ok (.i2l, 1) := by decide +kernel
theorem dX6_from_12 : decode cX6_from 12 = .ok (.aload_n 0, 1) := by decide +kernel
theorem dX6_from_13 : decode cX6_from 13 = .ok (.getfield 141, 3) := by decide +kernel
theorem dX6_from_16 : decode cX6_from 16 = .ok (.bipush 81, 2) := by decide +kernel
theorem dX6_from_18 : decode cX6_from 18 = .ok (.iload_n 1, 1) := by decide +kernel
theorem dX6_from_19 : decode cX6_from 19 = .ok (.iconst 1, 1) := by decide +kernel
theorem dX6_from_20 : decode cX6_from 20 = .ok (.isub, 1) := by decide +kernel
theorem dX6_from_21 : decode cX6_from 21 = .ok (.imul, 1) := by decide +kernel
theorem dX6_from_22 : decode cX6_from 22 = .ok (.iload_n 2, 1) := by decide +kernel
theorem dX6_from_23 : decode cX6_from 23 = .ok (.iadd, 1) := by decide +kernel
theorem dX6_from_24 : decode cX6_from 24 = .ok (.iconst 1, 1) := by decide +kernel
theorem dX6_from_25 : decode cX6_from 25 = .ok (.iadd, 1) := by decide +kernel
theorem dX6_from_26 : decode cX6_from 26 = .ok (.laload, 1) := by decide +kernel
theorem dX6_from_27 : decode cX6_from 27 = .ok (.ladd, 1) := by decide +kernel
theorem dX6_from_28 : decode cX6_from 28 = .ok (.lreturn, 1) := by decide +kernel
abbrev rm_X6_from : Room := k2_rm 1 14
section
variable {p : Program} {l : Launch} {e : Env} {s : State} {m : MethodId} {args : Array Value} {below : List Frame} {meth : Method} {c : Code} {D : gD} {A : Nat → Prop} {ad : Nat → Nat} {S : Nat → Nat × Nat} {σ : Mem}
set_option maxRecDepth 100000 in
set_option maxHeartbeats 4000000 in
theorem w_X6_from {a1 : Int32} {a2 : Int32} (hi0 : S 200 = (24, 0)) {r : Int64} (h : f_X6_from σ a1 a2 = some r) : Met l yX6_from (ws_ yX6_from cX6_from 3 (some .long)) rm_X6_from (va_Pc [.ref (ad 200), .int a1, .int a2] (PreG D (Ew D A) A ad S σ)) (QG D A ad S (some (.long r)) σ) 0 0 A := by
  refine y_met (by decide) (Nat.le_of_ble_eq_true rfl) (fun p e s m below meth c ls Z hS hl => ?_)
  have hx := Z.1
  have hb := Z.2.1
  have hown := Z.2.2.2.2.2.1
  have hts := Z.2.2.2.2.2.2.1
  unfold f_X6_from at h
  refine lv_aload_n hx hb dX6_from_0 rfl (lv_at hl 0 rfl) ?_
  refine h_getC (n := 56) (j := 256) (sh := (1, 20)) Z hS cls_14 hi0 (by decide) rfl rfl rfl fl_X6_138_14 dX6_from_1 (fun hc1 => ?_)
  refine lv_bipush (v := (19 : Int32)) hx hb dX6_from_4 (by decide) ?_
  refine lv_iload_n hx hb dX6_from_6 rfl (lv_at hl 2 rfl) ?_
  refine y_imin hx hb (hl.1 ▸ Z.2.2.2.2.1) Z.2.2.2.2.2 q1593 (by decide) (Nat.le_of_ble_eq_true rfl) (Nat.zero_le _) (Nat.zero_le _) dX6_from_7 ?_
  refine h_iald Z hS hc1 dX6_from_10 h (fun x2 h => ?_)
  refine lv_i2l hx hb dX6_from_11 rfl ?_
  refine lv_aload_n hx hb dX6_from_12 rfl (lv_at hl 0 rfl) ?_
  refine h_getC (n := 57) (j := 257) (sh := (4, 4941)) Z hS cls_14 hi0 (by decide) rfl rfl rfl fl_X6_141_14 dX6_from_13 (fun hc3 => ?_)
  refine lv_bipush (v := (81 : Int32)) hx hb dX6_from_16 (by decide) ?_
  refine lv_iload_n hx hb dX6_from_18 rfl (lv_at hl 1 rfl) ?_
  refine lv_iconst (v := (1 : Int32)) hx hb dX6_from_19 (by decide) ?_
  refine lv_isub hx hb dX6_from_20 ?_
  refine lv_imul hx hb dX6_from_21 ?_
  refine lv_iload_n hx hb dX6_from_22 rfl (lv_at hl 2 rfl) ?_
  refine lv_iadd hx hb dX6_from_23 ?_
  refine lv_iconst (v := (1 : Int32)) hx hb dX6_from_24 (by decide) ?_
  refine lv_iadd hx hb dX6_from_25 ?_
  refine h_lald Z hS hc3 dX6_from_26 h (fun y4 h => ?_)
  refine lv_ladd hx hb dX6_from_27 ?_
  exact h_lret Z hS dX6_from_28 h
end
theorem dX6_cheapest_0 : decode cX6_cheapest 0 = .ok (.iload_n 1, 1) := by decide +kernel
theorem dX6_cheapest_1 : decode cX6_cheapest 1 = .ok (.iconst 1, 1) := by decide +kernel
theorem dX6_cheapest_2 : decode cX6_cheapest 2 = .ok (.bipush 60, 2) := by decide +kernel
theorem dX6_cheapest_4 : decode cX6_cheapest 4 = .ok (.invokestatic 161, 3) := by decide +kernel
theorem dX6_cheapest_7 : decode cX6_cheapest 7 = .ok (.ifCond .eq 22, 3) := by decide +kernel
theorem dX6_cheapest_10 : decode cX6_cheapest 10 = .ok (.iload_n 2, 1) := by decide +kernel
theorem dX6_cheapest_11 : decode cX6_cheapest 11 = .ok (.iconst 0, 1) := by decide +kernel
theorem dX6_cheapest_12 : decode cX6_cheapest 12 = .ok (.bipush 19, 2) := by decide +kernel
theorem dX6_cheapest_14 : decode cX6_cheapest 14 = .ok (.invokestatic 161, 3) := by decide +kernel
theorem dX6_cheapest_17 : decode cX6_cheapest 17 = .ok (.ifCond .eq 12, 3) := by decide +kernel
theorem dX6_cheapest_20 : decode cX6_cheapest 20 = .ok (.iload_n 3, 1) := by decide +kernel
theorem dX6_cheapest_21 : decode cX6_cheapest 21 = .ok (.iconst 0, 1) := by decide +kernel
theorem dX6_cheapest_22 : decode cX6_cheapest 22 = .ok (.iconst 1, 1) := by decide +kernel
theorem dX6_cheapest_23 : decode cX6_cheapest 23 = .ok (.invokestatic 161, 3) := by decide +kernel
theorem dX6_cheapest_26 : decode cX6_cheapest 26 = .ok (.ifCond .ne 5, 3) := by decide +kernel
theorem dX6_cheapest_29 : decode cX6_cheapest 29 = .ok (.iconst (-1), 1) := by decide +kernel
theorem dX6_cheapest_30 : decode cX6_cheapest 30 = .ok (.ireturn, 1) := by decide +kernel
theorem dX6_cheapest_31 : decode cX6_cheapest 31 = .ok (.iconst 0, 1) := by decide +kernel
theorem dX6_cheapest_32 : decode cX6_cheapest 32 = .ok (.istore 4, 2) := by decide +kernel
theorem dX6_cheapest_34 : decode cX6_cheapest 34 = .ok (.iload 4, 2) := by decide +kernel
theorem dX6_cheapest_36 : decode cX6_cheapest 36 = .ok (.bipush 81, 2) := by decide +kernel
theorem dX6_cheapest_38 : decode cX6_cheapest 38 = .ok (.if_icmp .ge 17, 3) := by decide +kernel
theorem dX6_cheapest_41 : decode cX6_cheapest 41 = .ok (.aload_n 0, 1) := by decide +kernel
theorem dX6_cheapest_42 : decode cX6_cheapest 42 = .ok (.getfield 141, 3) := by decide +kernel
theorem dX6_cheapest_45 : decode cX6_cheapest 45 = .ok (.iload 4, 2) := by decide +kernel
theorem dX6_cheapest_47 : decode cX6_cheapest 47 = .ok (.lconst 0, 1) := by decide +kernel
theorem dX6_cheapest_48 : decode cX6_cheapest 48 = .ok (.lastore, 1) := by decide +kernel
theorem dX6_cheapest_49 : decode cX6_cheapest 49 = .ok (.iinc 4 1, 3) := by decide +kernel
theorem dX6_cheapest_52 : decode cX6_cheapest 52 = .ok (.goto (-18), 3) := by decide +kernel
theorem dX6_cheapest_55 : decode cX6_cheapest 55 = .ok (.iconst 1, 1) := by decide +kernel
theorem dX6_cheapest_56 : decode cX6_cheapest 56 = .ok (.istore 4, 2) := by decide +kernel
theorem dX6_cheapest_58 : decode cX6_cheapest 58 = .ok (.iload 4, 2) := by decide +kernel
theorem dX6_cheapest_60 : decode cX6_cheapest 60 = .ok (.iload_n 1, 1) := by decide +kernel
theorem dX6_cheapest_61 : decode cX6_cheapest 61 = .ok (.if_icmp .gt 62, 3) := by decide +kernel
theorem dX6_cheapest_64 : decode cX6_cheapest 64 = .ok (.iconst 0, 1) := by decide +kernel
theorem dX6_cheapest_65 : decode cX6_cheapest 65 = .ok (.istore 5, 2) := by decide +kernel
theorem dX6_cheapest_67 : decode cX6_cheapest 67 = .ok (.iload 5, 2) := by decide +kernel
theorem dX6_cheapest_69 : decode cX6_cheapest 69 = .ok (.bipush 80, 2) := by decide +kernel
theorem dX6_cheapest_71 : decode cX6_cheapest 71 = .ok (.if_icmp .ge 46, 3) := by decide +kernel
theorem dX6_cheapest_74 : decode cX6_cheapest 74 = .ok (.aload_n 0, 1) := by decide +kernel
theorem dX6_cheapest_75 : decode cX6_cheapest 75 = .ok (.getfield 141, 3) := by decide +kernel
theorem dX6_cheapest_78 : decode cX6_cheapest 78 = .ok (.bipush 81, 2) := by decide +kernel
theorem dX6_cheapest_80 : decode cX6_cheapest 80 = .ok (.iload 4, 2) := by decide +kernel
theorem dX6_cheapest_82 : decode cX6_cheapest 82 = .ok (.imul, 1) := by decide +kernel
theorem dX6_cheapest_83 : decode cX6_cheapest 83 = .ok (.iload 5, 2) := by decide +kernel
theorem dX6_cheapest_85 : decode cX6_cheapest 85 = .ok (.iadd, 1) := by decide +kernel
theorem dX6_cheapest_86 : decode cX6_cheapest 86 = .ok (.aload_n 0, 1) := by decide +kernel
theorem dX6_cheapest_87 : decode cX6_cheapest 87 = .ok (.iload 4, 2) := by decide +kernel
theorem dX6_cheapest_89 : decode cX6_cheapest 89 = .ok (.iload 5, 2) := by decide +kernel
theorem dX6_cheapest_91 : decode cX6_cheapest 91 = .ok (.invokevirtual 390, 3) := by decide +kernel
theorem dX6_cheapest_94 : decode cX6_cheapest 94 = .ok (.aload_n 0, 1) := by decide +kernel
theorem dX6_cheapest_95 : decode cX6_cheapest 95 = .ok (.getfield 387, 3) := by decide +kernel
theorem dX6_cheapest_98 : decode cX6_cheapest 98 = .ok (.i2l, 1) := by decide +kernel
theorem dX6_cheapest_99 : decode cX6_cheapest 99 = .ok (.aload_n 0, 1) := by decide +kernel
theorem dX6_cheapest_100 : decode cX6_cheapest 100 = .ok (.iload 4, 2) := by decide +kernel
theorem dX6_cheapest_102 : decode cX6_cheapest 102 = .ok (.iconst 0, 1) := by decide +kernel
theorem dX6_cheapest_103 : decode cX6_cheapest 103 = .ok (.invokevirtual 390, 3) := by decide +kernel
theorem dX6_cheapest_106 : decode cX6_cheapest 106 = .ok (.ladd, 1) := by decide +kernel
theorem dX6_cheapest_107 : decode cX6_cheapest 107 = .ok (.invokestatic 300, 3) := by decide +kernel
theorem dX6_cheapest_110 : decode cX6_cheapest 110 = .ok (.lastore, 1) := by decide +kernel
theorem dX6_cheapest_111 : decode cX6_cheapest 111 = .ok (.iinc 5 1, 3) := by decide +kernel
theorem dX6_cheapest_114 : decode cX6_cheapest 114 = .ok (.goto (-47), 3) := by decide +kernel
theorem dX6_cheapest_117 : decode cX6_cheapest 117 = .ok (.iinc 4 1, 3) := by decide +kernel
theorem dX6_cheapest_120 : decode cX6_cheapest 120 = .ok (.goto (-62), 3) := by decide +kernel
theorem dX6_cheapest_123 : decode cX6_cheapest 123 = .ok (.iload_n 3, 1) := by decide +kernel
theorem dX6_cheapest_124 : decode cX6_cheapest 124 = .ok (.ifCond .ne 16, 3) := by decide +kernel
theorem dX6_cheapest_127 : decode cX6_cheapest 127 = .ok (.aload_n 0, 1) := by decide +kernel
theorem dX6_cheapest_128 : decode cX6_cheapest 128 = .ok (.getfield 141, 3) := by decide +kernel
theorem dX6_cheapest_131 : decode cX6_cheapest 131 = .ok (.bipush 81, 2) := by decide +kernel
theorem dX6_cheapest_133 : decode cX6_cheapest 133 = .ok (.iload_n 1, 1) := by decide +kernel
theorem dX6_cheapest_134 : decode cX6_cheapest 134 = .ok (.imul, 1) := by decide +kernel
theorem dX6_cheapest_135 : decode cX6_cheapest 135 = .ok (.iload_n 2, 1) := by decide +kernel
theorem dX6_cheapest_136 : decode cX6_cheapest 136 = .ok (.iadd, 1) := by decide +kernel
theorem dX6_cheapest_137 : decode cX6_cheapest 137 = .ok (.laload, 1) := by decide +kernel
theorem dX6_cheapest_138 : decode cX6_cheapest 138 = .ok (.l2i, 1) := by decide +kernel
theorem dX6_cheapest_139 : decode cX6_cheapest 139 = .ok (.ireturn, 1) := by decide +kernel
theorem dX6_cheapest_140 : decode cX6_cheapest 140 = .ok (.iload_n 1, 1) := by decide +kernel
theorem dX6_cheapest_141 : decode cX6_cheapest 141 = .ok (.istore 4, 2) := by decide +kernel
theorem dX6_cheapest_143 : decode cX6_cheapest 143 = .ok (.iload 4, 2) := by decide +kernel
theorem dX6_cheapest_145 : decode cX6_cheapest 145 = .ok (.ifCond .le 47, 3) := by decide +kernel
theorem dX6_cheapest_148 : decode cX6_cheapest 148 = .ok (.iload_n 2, 1) := by decide +kernel
theorem dX6_cheapest_149 : decode cX6_cheapest 149 = .ok (.iload_n 1, 1) := by decide +kernel
theorem dX6_cheapest_150 : decode cX6_cheapest 150 = .ok (.iadd, 1) := by decide +kernel
theorem dX6_cheapest_151 : decode cX6_cheapest 151 = .ok (.iload 4, 2) := by decide +kernel
theorem dX6_cheapest_153 : decode cX6_cheapest 153 = .ok (.isub, 1) := by decide +kernel
theorem dX6_cheapest_154 : decode cX6_cheapest 154 = .ok (.istore 5, 2) := by decide +kernel
theorem dX6_cheapest_156 : decode cX6_cheapest 156 = .ok (.aload_n 0, 1) := by decide +kernel
theorem dX6_cheapest_157 : decode cX6_cheapest 157 = .ok (.iload 4, 2) := by decide +kernel
theorem dX6_cheapest_159 : decode cX6_cheapest 159 = .ok (.iload 5, 2) := by decide +kernel
theorem dX6_cheapest_161 : decode cX6_cheapest 161 = .ok (.invokevirtual 390, 3) := by decide +kernel
theorem dX6_cheapest_164 : decode cX6_cheapest 164 = .ok (.aload_n 0, 1) := by decide +kernel
theorem dX6_cheapest_165 : decode cX6_cheapest 165 = .ok (.getfield 387, 3) := by decide +kernel
theorem dX6_cheapest_168 : decode cX6_cheapest 168 = .ok (.i2l, 1) := by decide +kernel
theorem dX6_cheapest_169 : decode cX6_cheapest 169 = .ok (.aload_n 0, 1) := by decide +kernel
theorem dX6_cheapest_170 : decode cX6_cheapest 170 = .ok (.iload 4, 2) := by decide +kernel
theorem dX6_cheapest_172 : decode cX6_cheapest 172 = .ok (.iconst 0, 1) := by decide +kernel
theorem dX6_cheapest_173 : decode cX6_cheapest 173 = .ok (.invokevirtual 390, 3) := by decide +kernel
theorem dX6_cheapest_176 : decode cX6_cheapest 176 = .ok (.ladd, 1) := by decide +kernel
theorem dX6_cheapest_177 : decode cX6_cheapest 177 = .ok (.lcmp, 1) := by decide +kernel
theorem dX6_cheapest_178 : decode cX6_cheapest 178 = .ok (.ifCond .le 8, 3) := by decide +kernel
theorem dX6_cheapest_181 : decode cX6_cheapest 181 = .ok (.iload_n 1, 1) := by decide +kernel
theorem dX6_cheapest_182 : decode cX6_cheapest 182 = .ok (.iload 4, 2) := by decide +kernel
theorem dX6_cheapest_184 : decode cX6_cheapest 184 = .ok (.isub, 1) := by decide +kernel
theorem dX6_cheapest_185 : decode cX6_cheapest 185 = .ok (.ireturn, 1) := by decide +kernel
theorem dX6_cheapest_186 : decode cX6_cheapest 186 = .ok (.iinc 4 (-1), 3) := by decide +kernel
theorem dX6_cheapest_189 : decode cX6_cheapest 189 = .ok (.goto (-46), 3) := by decide +kernel
theorem dX6_cheapest_192 : decode cX6_cheapest 192 = .ok (.iconst (-1), 1) := by decide +kernel
theorem dX6_cheapest_193 : decode cX6_cheapest 193 = .ok (.ireturn, 1) := by decide +kernel
abbrev rm_X6_cheapest : Room := k2_rm 2 36
section
variable {p : Program} {l : Launch} {e : Env} {s : State} {m : MethodId} {args : Array Value} {below : List Frame} {meth : Method} {c : Code} {D : gD} {A : Nat → Prop} {ad : Nat → Nat} {S : Nat → Nat × Nat} {σ : Mem}
set_option maxRecDepth 100000 in
set_option maxHeartbeats 4000000 in
theorem w_X6_cheapest_L34 (Z : Cz D (Ew D A) A cX6_cheapest 6 (some .int) RX6 p s m args meth c) {u1 : Int32} {u2 : Int32} {u3 : Int32} (hu0 : S 200 = (24, 0)) {r : (Mem × Int32)} {k55 : Mem → Option (Mem × Int32)}
    (hk55 : ∀ (σ : Mem)  (H : Heap) (locs : List Loc) (ls : Array Slot), St D A ad S σ s.heap H locs → lv_has ls 6 [(0, .ref (ad 200)), (1, .int u1), (2, .int u2), (3, .int u3)] → k55 σ = some r → W p l e rm_X6_cheapest s m args below meth c H locs 0 0 (MQ below (QG D A ad S (some (.int r.2)) r.1) args s 0 0 A) (F0 m 55 ls [])) :
    ∀ (n : Nat) (σ : Mem) (v4 : Int32) (H : Heap) (locs : List Loc) (ls : Array Slot), St D A ad S σ s.heap H locs → lv_has ls 6 [(0, .ref (ad 200)), (1, .int u1), (2, .int u2), (3, .int u3), (4, .int v4)] → f_X6_cheapest_L34 k55 u1 u2 u3 n σ v4 = some r → W p l e rm_X6_cheapest s m args below meth c H locs 0 0 (MQ below (QG D A ad S (some (.int r.2)) r.1) args s 0 0 A) (F0 m 34 ls []) := by
  have hx := Z.1
  have hb := Z.2.1
  have hown := Z.2.2.2.2.2.1
  have hts := Z.2.2.2.2.2.2.1
  intro n
  induction n with
  | zero => intro σ v4 H locs ls hS hl h; cases h
  | succ n ih =>
    intro σ v4 H locs ls hS hl h
    unfold f_X6_cheapest_L34 at h
    refine lv_iload hx hb dX6_cheapest_34 (lv_at hl 4 rfl) ?_
    refine lv_bipush (v := (81 : Int32)) hx hb dX6_cheapest_36 (by decide) ?_
    refine lv_icmp_ge (tgt := 55) hx hb dX6_cheapest_38 (by decide) (fun c7 => ?_) (fun c7 => ?_)
    · have h := if_t h c7
      exact hk55 _ _ _ _ hS (lv_sub hl [0, 1, 2, 3] rfl) h
    · have h := if_f h c7
      refine lv_aload_n hx hb dX6_cheapest_41 rfl (lv_at hl 0 rfl) ?_
      refine h_getC (n := 57) (j := 257) (sh := (4, 4941)) Z hS cls_14 hu0 (by decide) rfl rfl rfl fl_X6_141_14 dX6_cheapest_42 (fun hc8 => ?_)
      refine lv_iload hx hb dX6_cheapest_45 (lv_at hl 4 rfl) ?_
      refine lv_lconst (v := (0 : Int64)) hx hb dX6_cheapest_47 (by decide) ?_
      refine h_last Z hS hc8 dX6_cheapest_48 h (fun σ9 H locs hS h => ?_)
      refine lv_iinc (v := (v4 + (1 : Int32))) (lv' := [(4, .int (v4 + (1 : Int32))), (0, .ref (ad 200)), (1, .int u1), (2, .int u2), (3, .int u3)]) hx hb dX6_cheapest_49 hl (k := 4) rfl rfl (by decide) rfl (fun ls hl => ?_)
      refine lv_goto (tgt := 34) hx hb dX6_cheapest_52 (by decide) ?_
      exact ih _ _ _ _ _ hS (lv_sub hl [1, 2, 3, 4, 0] rfl) h
set_option maxRecDepth 100000 in
set_option maxHeartbeats 4000000 in
theorem w_X6_cheapest_L67 (Z : Cz D (Ew D A) A cX6_cheapest 6 (some .int) RX6 p s m args meth c) {u1 : Int32} {u2 : Int32} {u3 : Int32} {u4 : Int32} (hu0 : S 200 = (24, 0)) {r : (Mem × Int32)} {k117 : Mem → Option (Mem × Int32)}
    (hk117 : ∀ (σ : Mem)  (H : Heap) (locs : List Loc) (ls : Array Slot), St D A ad S σ s.heap H locs → lv_has ls 6 [(0, .ref (ad 200)), (1, .int u1), (2, .int u2), (3, .int u3), (4, .int u4)] → k117 σ = some r → W p l e rm_X6_cheapest s m args below meth c H locs 0 0 (MQ below (QG D A ad S (some (.int r.2)) r.1) args s 0 0 A) (F0 m 117 ls [])) :
    ∀ (n : Nat) (σ : Mem) (v5 : Int32) (H : Heap) (locs : List Loc) (ls : Array Slot), St D A ad S σ s.heap H locs → lv_has ls 6 [(0, .ref (ad 200)), (1, .int u1), (2, .int u2), (3, .int u3), (4, .int u4), (5, .int v5)] → f_X6_cheapest_L67 k117 u1 u2 u3 u4 n σ v5 = some r → W p l e rm_X6_cheapest s m args below meth c H locs 0 0 (MQ below (QG D A ad S (some (.int r.2)) r.1) args s 0 0 A) (F0 m 67 ls []) := by
  have hx := Z.1
  have hb := Z.2.1
  have hown := Z.2.2.2.2.2.1
  have hts := Z.2.2.2.2.2.2.1
  intro n
  induction n with
  | zero => intro σ v5 H locs ls hS hl h; cases h
  | succ n ih =>
    intro σ v5 H locs ls hS hl h
    unfold f_X6_cheapest_L67 at h
    refine lv_iload hx hb dX6_cheapest_67 (lv_at hl 5 rfl) ?_
    refine lv_bipush (v := (80 : Int32)) hx hb dX6_cheapest_69 (by decide) ?_
    refine lv_icmp_ge (tgt := 117) hx hb dX6_cheapest_71 (by decide) (fun c12 => ?_) (fun c12 => ?_)
    · have h := if_t h c12
      exact hk117 _ _ _ _ hS (lv_sub hl [0, 1, 2, 3, 4] rfl) h
    · have h := if_f h c12
      refine lv_aload_n hx hb dX6_cheapest_74 rfl (lv_at hl 0 rfl) ?_
      refine h_getC (n := 57) (j := 257) (sh := (4, 4941)) Z hS cls_14 hu0 (by decide) rfl rfl rfl fl_X6_141_14 dX6_cheapest_75 (fun hc13 => ?_)
      refine lv_bipush (v := (81 : Int32)) hx hb dX6_cheapest_78 (by decide) ?_
      refine lv_iload hx hb dX6_cheapest_80 (lv_at hl 4 rfl) ?_
      refine lv_imul hx hb dX6_cheapest_82 ?_
      refine lv_iload hx hb dX6_cheapest_83 (lv_at hl 5 rfl) ?_
      refine lv_iadd hx hb dX6_cheapest_85 ?_
      refine lv_aload_n hx hb dX6_cheapest_86 rfl (lv_at hl 0 rfl) ?_
      refine lv_iload hx hb dX6_cheapest_87 (lv_at hl 4 rfl) ?_
      refine lv_iload hx hb dX6_cheapest_89 (lv_at hl 5 rfl) ?_
      refine h_cl hS h (fun z hz => h_rV (rest := [.int (((81 : Int32) * u4) + v5), .ref (ad 257)]) Z hS hu0 rfl v_X6_390 (w_X6_from hu0 hz) rfl rfl ⟨by decide, by decide⟩ rfl hl.1 rfl (Nat.le_of_ble_eq_true rfl) (Nat.zero_le _) (Nat.zero_le _) dX6_cheapest_91) (fun y14 H locs hS h => ?_)
      refine lv_aload_n hx hb dX6_cheapest_94 rfl (lv_at hl 0 rfl) ?_
      refine h_getI Z hS cls_14 hu0 (by decide) rfl fl_X6_387_14 dX6_cheapest_95 h (fun x15 h => ?_)
      refine lv_i2l hx hb dX6_cheapest_98 rfl ?_
      refine lv_aload_n hx hb dX6_cheapest_99 rfl (lv_at hl 0 rfl) ?_
      refine lv_iload hx hb dX6_cheapest_100 (lv_at hl 4 rfl) ?_
      refine lv_iconst (v := (0 : Int32)) hx hb dX6_cheapest_102 (by decide) ?_
      refine h_cl hS h (fun z hz => h_rV (rest := [.long (x15).toInt64, .long y14, .int (((81 : Int32) * u4) + v5), .ref (ad 257)]) Z hS hu0 rfl v_X6_390 (w_X6_from hu0 hz) rfl rfl ⟨by decide, by decide⟩ rfl hl.1 rfl (Nat.le_of_ble_eq_true rfl) (Nat.zero_le _) (Nat.zero_le _) dX6_cheapest_103) (fun y16 H locs hS h => ?_)
      refine lv_ladd hx hb dX6_cheapest_106 ?_
      refine y_lmin hx hb (hl.1 ▸ Z.2.2.2.2.1) Z.2.2.2.2.2 q1568 (by decide) (Nat.le_of_ble_eq_true rfl) (Nat.zero_le _) (Nat.zero_le _) dX6_cheapest_107 ?_
      refine h_last Z hS hc13 dX6_cheapest_110 h (fun σ17 H locs hS h => ?_)
      refine lv_iinc (v := (v5 + (1 : Int32))) (lv' := [(5, .int (v5 + (1 : Int32))), (0, .ref (ad 200)), (1, .int u1), (2, .int u2), (3, .int u3), (4, .int u4)]) hx hb dX6_cheapest_111 hl (k := 5) rfl rfl (by decide) rfl (fun ls hl => ?_)
      refine lv_goto (tgt := 67) hx hb dX6_cheapest_114 (by decide) ?_
      exact ih _ _ _ _ _ hS (lv_sub hl [1, 2, 3, 4, 5, 0] rfl) h
set_option maxRecDepth 100000 in
set_option maxHeartbeats 4000000 in
theorem w_X6_cheapest_L58 (Z : Cz D (Ew D A) A cX6_cheapest 6 (some .int) RX6 p s m args meth c) {u1 : Int32} {u2 : Int32} {u3 : Int32} (hu0 : S 200 = (24, 0)) {r : (Mem × Int32)} {k123 : Mem → Option (Mem × Int32)}
    (hk123 : ∀ (σ : Mem)  (H : Heap) (locs : List Loc) (ls : Array Slot), St D A ad S σ s.heap H locs → lv_has ls 6 [(0, .ref (ad 200)), (1, .int u1), (2, .int u2), (3, .int u3)] → k123 σ = some r → W p l e rm_X6_cheapest s m args below meth c H locs 0 0 (MQ below (QG D A ad S (some (.int r.2)) r.1) args s 0 0 A) (F0 m 123 ls [])) :
    ∀ (n : Nat) (σ : Mem) (v4 : Int32) (H : Heap) (locs : List Loc) (ls : Array Slot), St D A ad S σ s.heap H locs → lv_has ls 6 [(0, .ref (ad 200)), (1, .int u1), (2, .int u2), (3, .int u3), (4, .int v4)] → f_X6_cheapest_L58 k123 u1 u2 u3 n σ v4 = some r → W p l e rm_X6_cheapest s m args below meth c H locs 0 0 (MQ below (QG D A ad S (some (.int r.2)) r.1) args s 0 0 A) (F0 m 58 ls []) := by
  have hx := Z.1
  have hb := Z.2.1
  have hown := Z.2.2.2.2.2.1
  have hts := Z.2.2.2.2.2.2.1
  intro n
  induction n with
  | zero => intro σ v4 H locs ls hS hl h; cases h
  | succ n ih =>
    intro σ v4 H locs ls hS hl h
    unfold f_X6_cheapest_L58 at h
    refine lv_iload hx hb dX6_cheapest_58 (lv_at hl 4 rfl) ?_
    refine lv_iload_n hx hb dX6_cheapest_60 rfl (lv_at hl 1 rfl) ?_
    refine lv_icmp_gt (tgt := 123) hx hb dX6_cheapest_61 (by decide) (fun c11 => ?_) (fun c11 => ?_)
    · have h := if_t h c11
      exact hk123 _ _ _ _ hS (lv_sub hl [0, 1, 2, 3] rfl) h
    · have h := if_f h c11
      refine lv_iconst (v := (0 : Int32)) hx hb dX6_cheapest_64 (by decide) ?_
      refine lv_istore (lv' := [(5, .int (0 : Int32)), (0, .ref (ad 200)), (1, .int u1), (2, .int u2), (3, .int u3), (4, .int v4)]) hx hb dX6_cheapest_65 hl (by decide) rfl (fun ls hl => ?_)
      refine w_X6_cheapest_L67 Z hu0 (fun σ18 H locs ls hS hl h => ?_) FU _ _ _ _ _ hS (lv_sub hl [1, 2, 3, 4, 5, 0] rfl) h
      refine lv_iinc (v := (v4 + (1 : Int32))) (lv' := [(4, .int (v4 + (1 : Int32))), (0, .ref (ad 200)), (1, .int u1), (2, .int u2), (3, .int u3)]) hx hb dX6_cheapest_117 hl (k := 4) rfl rfl (by decide) rfl (fun ls hl => ?_)
      refine lv_goto (tgt := 58) hx hb dX6_cheapest_120 (by decide) ?_
      exact ih _ _ _ _ _ hS (lv_sub hl [1, 2, 3, 4, 0] rfl) h
set_option maxRecDepth 100000 in
set_option maxHeartbeats 4000000 in
theorem w_X6_cheapest_L143 (Z : Cz D (Ew D A) A cX6_cheapest 6 (some .int) RX6 p s m args meth c) {u1 : Int32} {u2 : Int32} (hu0 : S 200 = (24, 0)) {r : (Mem × Int32)} {k181 : Int32 → Option (Mem × Int32)} {k192 : Option (Mem × Int32)}
    (hk181 : ∀ (w4 : Int32) (H : Heap) (locs : List Loc) (ls : Array Slot), St D A ad S σ s.heap H locs → lv_has ls 6 [(1, .int u1), (4, .int w4)] → k181 w4 = some r → W p l e rm_X6_cheapest s m args below meth c H locs 0 0 (MQ below (QG D A ad S (some (.int r.2)) r.1) args s 0 0 A) (F0 m 181 ls []))
    (hk192 : ∀  (H : Heap) (locs : List Loc) (ls : Array Slot), St D A ad S σ s.heap H locs → lv_has ls 6 [] → k192 = some r → W p l e rm_X6_cheapest s m args below meth c H locs 0 0 (MQ below (QG D A ad S (some (.int r.2)) r.1) args s 0 0 A) (F0 m 192 ls [])) :
    ∀ (n : Nat) (v4 : Int32) (H : Heap) (locs : List Loc) (ls : Array Slot), St D A ad S σ s.heap H locs → lv_has ls 6 [(0, .ref (ad 200)), (1, .int u1), (2, .int u2), (4, .int v4)] → f_X6_cheapest_L143 k181 k192 σ u1 u2 n v4 = some r → W p l e rm_X6_cheapest s m args below meth c H locs 0 0 (MQ below (QG D A ad S (some (.int r.2)) r.1) args s 0 0 A) (F0 m 143 ls []) := by
  have hx := Z.1
  have hb := Z.2.1
  have hown := Z.2.2.2.2.2.1
  have hts := Z.2.2.2.2.2.2.1
  intro n
  induction n with
  | zero => intro v4 H locs ls hS hl h; cases h
  | succ n ih =>
    intro v4 H locs ls hS hl h
    unfold f_X6_cheapest_L143 at h
    refine lv_iload hx hb dX6_cheapest_143 (lv_at hl 3 rfl) ?_
    refine lv_if_le (tgt := 192) hx hb dX6_cheapest_145 (by decide) (fun c23 => ?_) (fun c23 => ?_)
    · have h := if_t h c23
      exact hk192  _ _ _ hS (lv_sub hl [] rfl) h
    · have h := if_f h c23
      refine lv_iload_n hx hb dX6_cheapest_148 rfl (lv_at hl 2 rfl) ?_
      refine lv_iload_n hx hb dX6_cheapest_149 rfl (lv_at hl 1 rfl) ?_
      refine lv_iadd hx hb dX6_cheapest_150 ?_
      refine lv_iload hx hb dX6_cheapest_151 (lv_at hl 3 rfl) ?_
      refine lv_isub hx hb dX6_cheapest_153 ?_
      refine h_leti h (fun x24 h => ?_)
      refine lv_istore (lv' := [(5, .int x24), (0, .ref (ad 200)), (1, .int u1), (2, .int u2), (4, .int v4)]) hx hb dX6_cheapest_154 hl (by decide) rfl (fun ls hl => ?_)
      refine lv_aload_n hx hb dX6_cheapest_156 rfl (lv_at hl 1 rfl) ?_
      refine lv_iload hx hb dX6_cheapest_157 (lv_at hl 4 rfl) ?_
      refine lv_iload hx hb dX6_cheapest_159 (lv_at hl 0 rfl) ?_
      refine h_cl hS h (fun z hz => h_rV (rest := []) Z hS hu0 rfl v_X6_390 (w_X6_from hu0 hz) rfl rfl ⟨by decide, by decide⟩ rfl hl.1 rfl (Nat.le_of_ble_eq_true rfl) (Nat.zero_le _) (Nat.zero_le _) dX6_cheapest_161) (fun y25 H locs hS h => ?_)
      refine lv_aload_n hx hb dX6_cheapest_164 rfl (lv_at hl 1 rfl) ?_
      refine h_getI Z hS cls_14 hu0 (by decide) rfl fl_X6_387_14 dX6_cheapest_165 h (fun x26 h => ?_)
      refine lv_i2l hx hb dX6_cheapest_168 rfl ?_
      refine lv_aload_n hx hb dX6_cheapest_169 rfl (lv_at hl 1 rfl) ?_
      refine lv_iload hx hb dX6_cheapest_170 (lv_at hl 4 rfl) ?_
      refine lv_iconst (v := (0 : Int32)) hx hb dX6_cheapest_172 (by decide) ?_
      refine h_cl hS h (fun z hz => h_rV (rest := [.long (x26).toInt64, .long y25]) Z hS hu0 rfl v_X6_390 (w_X6_from hu0 hz) rfl rfl ⟨by decide, by decide⟩ rfl hl.1 rfl (Nat.le_of_ble_eq_true rfl) (Nat.zero_le _) (Nat.zero_le _) dX6_cheapest_173) (fun y27 H locs hS h => ?_)
      refine lv_ladd hx hb dX6_cheapest_176 ?_
      refine y_lcmp_le (tgt := 186) hx hb dX6_cheapest_177 dX6_cheapest_178 (by decide) (fun c28 => ?_) (fun c28 => ?_)
      · have h := if_t h c28
        refine lv_iinc (v := (v4 + (-1 : Int32))) (lv' := [(4, .int (v4 + (-1 : Int32))), (5, .int x24), (0, .ref (ad 200)), (1, .int u1), (2, .int u2)]) hx hb dX6_cheapest_186 hl (k := 4) rfl rfl (by decide) rfl (fun ls hl => ?_)
        refine lv_goto (tgt := 143) hx hb dX6_cheapest_189 (by decide) ?_
        exact ih _ _ _ _ hS (lv_sub hl [2, 3, 4, 0] rfl) h
      · have h := if_f h c28
        exact hk181 _ _ _ _ hS (lv_sub hl [2, 4] rfl) h
set_option maxRecDepth 100000 in
set_option maxHeartbeats 4000000 in
theorem w_X6_cheapest {a1 : Int32} {a2 : Int32} {a3 : Int32} (hi0 : S 200 = (24, 0)) {r : (Mem × Int32)} (h : f_X6_cheapest σ a1 a2 a3 = some r) : Met l yX6_cheapest (ws_ yX6_cheapest cX6_cheapest 6 (some .int)) rm_X6_cheapest (va_Pc [.ref (ad 200), .int a1, .int a2, .int a3] (PreG D (Ew D A) A ad S σ)) (QG D A ad S (some (.int r.2)) r.1) 0 0 A := by
  refine y_met (by decide) (Nat.le_of_ble_eq_true rfl) (fun p e s m below meth c ls Z hS hl => ?_)
  have hx := Z.1
  have hb := Z.2.1
  have hown := Z.2.2.2.2.2.1
  have hts := Z.2.2.2.2.2.2.1
  unfold f_X6_cheapest at h
  refine lv_iload_n hx hb dX6_cheapest_0 rfl (lv_at hl 1 rfl) ?_
  refine lv_iconst (v := (1 : Int32)) hx hb dX6_cheapest_1 (by decide) ?_
  refine lv_bipush (v := (60 : Int32)) hx hb dX6_cheapest_2 (by decide) ?_
  refine h_ci hS h (fun z hz => h_rS (rest := []) Z hS v_X6_161 (w_X6_in hz) rfl rfl ⟨by decide, by decide⟩ rfl hl.1 rfl (Nat.le_of_ble_eq_true rfl) (Nat.zero_le _) (Nat.zero_le _) dX6_cheapest_4) (fun x1 H locs hS h => ?_)
  refine lv_if_eq (tgt := 29) hx hb dX6_cheapest_7 (by decide) (fun c2 => ?_) (fun c2 => ?_)
  · have h := if_t h c2
    refine lv_iconst (v := (-1 : Int32)) hx hb dX6_cheapest_29 (by decide) ?_
    exact h_iretm Z hS dX6_cheapest_30 h
  · have h := if_f h c2
    refine lv_iload_n hx hb dX6_cheapest_10 rfl (lv_at hl 2 rfl) ?_
    refine lv_iconst (v := (0 : Int32)) hx hb dX6_cheapest_11 (by decide) ?_
    refine lv_bipush (v := (19 : Int32)) hx hb dX6_cheapest_12 (by decide) ?_
    refine h_ci hS h (fun z hz => h_rS (rest := []) Z hS v_X6_161 (w_X6_in hz) rfl rfl ⟨by decide, by decide⟩ rfl hl.1 rfl (Nat.le_of_ble_eq_true rfl) (Nat.zero_le _) (Nat.zero_le _) dX6_cheapest_14) (fun x3 H locs hS h => ?_)
    refine lv_if_eq (tgt := 29) hx hb dX6_cheapest_17 (by decide) (fun c4 => ?_) (fun c4 => ?_)
    · have h := if_t h c4
      refine lv_iconst (v := (-1 : Int32)) hx hb dX6_cheapest_29 (by decide) ?_
      exact h_iretm Z hS dX6_cheapest_30 h
    · have h := if_f h c4
      refine lv_iload_n hx hb dX6_cheapest_20 rfl (lv_at hl 3 rfl) ?_
      refine lv_iconst (v := (0 : Int32)) hx hb dX6_cheapest_21 (by decide) ?_
      refine lv_iconst (v := (1 : Int32)) hx hb dX6_cheapest_22 (by decide) ?_
      refine h_ci hS h (fun z hz => h_rS (rest := []) Z hS v_X6_161 (w_X6_in hz) rfl rfl ⟨by decide, by decide⟩ rfl hl.1 rfl (Nat.le_of_ble_eq_true rfl) (Nat.zero_le _) (Nat.zero_le _) dX6_cheapest_23) (fun x5 H locs hS h => ?_)
      refine lv_if_ne (tgt := 31) hx hb dX6_cheapest_26 (by decide) (fun c6 => ?_) (fun c6 => ?_)
      · have h := if_f h c6
        refine lv_iconst (v := (0 : Int32)) hx hb dX6_cheapest_31 (by decide) ?_
        refine lv_istore (lv' := [(4, .int (0 : Int32)), (0, .ref (ad 200)), (1, .int a1), (2, .int a2), (3, .int a3)]) hx hb dX6_cheapest_32 hl (by decide) rfl (fun ls hl => ?_)
        refine w_X6_cheapest_L34 Z hi0 (fun σ10 H locs ls hS hl h => ?_) FU _ _ _ _ _ hS (lv_sub hl [1, 2, 3, 4, 0] rfl) h
        refine lv_iconst (v := (1 : Int32)) hx hb dX6_cheapest_55 (by decide) ?_
        refine lv_istore (lv' := [(4, .int (1 : Int32)), (0, .ref (ad 200)), (1, .int a1), (2, .int a2), (3, .int a3)]) hx hb dX6_cheapest_56 hl (by decide) rfl (fun ls hl => ?_)
        refine w_X6_cheapest_L58 Z hi0 (fun σ19 H locs ls hS hl h => ?_) FU _ _ _ _ _ hS (lv_sub hl [1, 2, 3, 4, 0] rfl) h
        refine lv_iload_n hx hb dX6_cheapest_123 rfl (lv_at hl 3 rfl) ?_
        refine lv_if_ne (tgt := 140) hx hb dX6_cheapest_124 (by decide) (fun c20 => ?_) (fun c20 => ?_)
        · have h := if_f h c20
          refine lv_iload_n hx hb dX6_cheapest_140 rfl (lv_at hl 1 rfl) ?_
          refine lv_istore (lv' := [(4, .int a1), (0, .ref (ad 200)), (1, .int a1), (2, .int a2), (3, .int a3)]) hx hb dX6_cheapest_141 hl (by decide) rfl (fun ls hl => ?_)
          refine w_X6_cheapest_L143 Z hi0 (fun x29 H locs ls hS hl h => ?_) (fun  H locs ls hS hl h => ?_) FU _ _ _ _ hS (lv_sub hl [1, 2, 3, 0] rfl) h
          · refine lv_iload_n hx hb dX6_cheapest_181 rfl (lv_at hl 0 rfl) ?_
            refine lv_iload hx hb dX6_cheapest_182 (lv_at hl 1 rfl) ?_
            refine lv_isub hx hb dX6_cheapest_184 ?_
            exact h_iretm Z hS dX6_cheapest_185 h
          · refine lv_iconst (v := (-1 : Int32)) hx hb dX6_cheapest_192 (by decide) ?_
            exact h_iretm Z hS dX6_cheapest_193 h
        · have h := if_t h c20
          refine lv_aload_n hx hb dX6_cheapest_127 rfl (lv_at hl 0 rfl) ?_
          refine h_getC (n := 57) (j := 257) (sh := (4, 4941)) Z hS cls_14 hi0 (by decide) rfl rfl rfl fl_X6_141_14 dX6_cheapest_128 (fun hc21 => ?_)
          refine lv_bipush (v := (81 : Int32)) hx hb dX6_cheapest_131 (by decide) ?_
          refine lv_iload_n hx hb dX6_cheapest_133 rfl (lv_at hl 1 rfl) ?_
          refine lv_imul hx hb dX6_cheapest_134 ?_
          refine lv_iload_n hx hb dX6_cheapest_135 rfl (lv_at hl 2 rfl) ?_
          refine lv_iadd hx hb dX6_cheapest_136 ?_
          refine h_lald Z hS hc21 dX6_cheapest_137 h (fun y22 h => ?_)
          refine lv_l2i hx hb dX6_cheapest_138 rfl ?_
          exact h_iretm Z hS dX6_cheapest_139 h
      · have h := if_t h c6
        refine lv_iconst (v := (-1 : Int32)) hx hb dX6_cheapest_29 (by decide) ?_
        exact h_iretm Z hS dX6_cheapest_30 h
end
theorem dX6_gauge_0 : decode cX6_gauge 0 = .ok (.aload_n 0, 1) := by decide +kernel
theorem dX6_gauge_1 : decode cX6_gauge 1 = .ok (.iload_n 1, 1) := by decide +kernel
theorem dX6_gauge_2 : decode cX6_gauge 2 = .ok (.iload_n 2, 1) := by decide +kernel
theorem dX6_gauge_3 : decode cX6_gauge 3 = .ok (.invokevirtual 209, 3) := by decide +kernel
theorem dX6_gauge_6 : decode cX6_gauge 6 = .ok (.ifCond .eq 35, 3) := by decide +kernel
theorem dX6_gauge_9 : decode cX6_gauge 9 = .ok (.iload_n 3, 1) := by decide +kernel
theorem dX6_gauge_10 : decode cX6_gauge 10 = .ok (.iconst 1, 1) := by decide +kernel
theorem dX6_gauge_11 : decode cX6_gauge 11 = .ok (.sipush 10000, 3) := by decide +kernel
theorem dX6_gauge_14 : decode cX6_gauge 14 = .ok (.invokestatic 161, 3) := by decide +kernel
theorem dX6_gauge_17 : decode cX6_gauge 17 = .ok (.ifCond .eq 24, 3) := by decide +kernel
theorem dX6_gauge_20 : decode cX6_gauge 20 = .ok (.iload 4, 2) := by decide +kernel
theorem dX6_gauge_22 : decode cX6_gauge 22 = .ok (.iload_n 3, 1) := by decide +kernel
theorem dX6_gauge_23 : decode cX6_gauge 23 = .ok (.sipush 10000, 3) := by decide +kernel
theorem dX6_gauge_26 : decode cX6_gauge 26 = .ok (.invokestatic 161, 3) := by decide +kernel
theorem dX6_gauge_29 : decode cX6_gauge 29 = .ok (.ifCond .eq 12, 3) := by decide +kernel
theorem dX6_gauge_32 : decode cX6_gauge 32 = .ok (.aload_n 0, 1) := by decide +kernel
theorem dX6_gauge_33 : decode cX6_gauge 33 = .ok (.getfield 393, 3) := by decide +kernel
theorem dX6_gauge_36 : decode cX6_gauge 36 = .ok (.bipush 100, 2) := by decide +kernel
theorem dX6_gauge_38 : decode cX6_gauge 38 = .ok (.if_icmp .ne 5, 3) := by decide +kernel
theorem dX6_gauge_41 : decode cX6_gauge 41 = .ok (.iconst (-1), 1) := by decide +kernel
theorem dX6_gauge_42 : decode cX6_gauge 42 = .ok (.ireturn, 1) := by decide +kernel
theorem dX6_gauge_43 : decode cX6_gauge 43 = .ok (.aload_n 0, 1) := by decide +kernel
theorem dX6_gauge_44 : decode cX6_gauge 44 = .ok (.getfield 145, 3) := by decide +kernel
theorem dX6_gauge_47 : decode cX6_gauge 47 = .ok (.aload_n 0, 1) := by decide +kernel
theorem dX6_gauge_48 : decode cX6_gauge 48 = .ok (.getfield 393, 3) := by decide +kernel
theorem dX6_gauge_51 : decode cX6_gauge 51 = .ok (.bipush 10, 2) := by decide +kernel
theorem dX6_gauge_53 : decode cX6_gauge 53 = .ok (.iload_n 1, 1) := by decide +kernel
theorem dX6_gauge_54 : decode cX6_gauge 54 = .ok (.imul, 1) := by decide +kernel
theorem dX6_gauge_55 : decode cX6_gauge 55 = .ok (.iload_n 2, 1) := by decide +kernel
theorem dX6_gauge_56 : decode cX6_gauge 56 = .ok (.iadd, 1) := by decide +kernel
theorem dX6_gauge_57 : decode cX6_gauge 57 = .ok (.iastore, 1) := by decide +kernel
theorem dX6_gauge_58 : decode cX6_gauge 58 = .ok (.aload_n 0, 1) := by decide +kernel
theorem dX6_gauge_59 : decode cX6_gauge 59 = .ok (.getfield 148, 3) := by decide +kernel
theorem dX6_gauge_62 : decode cX6_gauge 62 = .ok (.aload_n 0, 1) := by decide +kernel
theorem dX6_gauge_63 : decode cX6_gauge 63 = .ok (.getfield 393, 3) := by decide +kernel
theorem dX6_gauge_66 : decode cX6_gauge 66 = .ok (.iload_n 3, 1) := by decide +kernel
theorem dX6_gauge_67 : decode cX6_gauge 67 = .ok (.iastore, 1) := by decide +kernel
theorem dX6_gauge_68 : decode cX6_gauge 68 = .ok (.aload_n 0, 1) := by decide +kernel
theorem dX6_gauge_69 : decode cX6_gauge 69 = .ok (.getfield 151, 3) := by decide +kernel
theorem dX6_gauge_72 : decode cX6_gauge 72 = .ok (.aload_n 0, 1) := by decide +kernel
theorem dX6_gauge_73 : decode cX6_gauge 73 = .ok (.getfield 393, 3) := by decide +kernel
theorem dX6_gauge_76 : decode cX6_gauge 76 = .ok (.iload 4, 2) := by decide +kernel
theorem dX6_gauge_78 : decode cX6_gauge 78 = .ok (.iastore, 1) := by decide +kernel
theorem dX6_gauge_79 : decode cX6_gauge 79 = .ok (.aload_n 0, 1) := by decide +kernel
theorem dX6_gauge_80 : decode cX6_gauge 80 = .ok (.getfield 154, 3) := by decide +kernel
theorem dX6_gauge_83 : decode cX6_gauge 83 = .ok (.aload_n 0, 1) := by decide +kernel
theorem dX6_gauge_84 : decode cX6_gauge 84 = .ok (.getfield 393, 3) := by decide +kernel
theorem dX6_gauge_87 : decode cX6_gauge 87 = .ok (.aload_n 0, 1) := by decide +kernel
theorem dX6_gauge_88 : decode cX6_gauge 88 = .ok (.getfield 330, 3) := by decide +kernel
theorem dX6_gauge_91 : decode cX6_gauge 91 = .ok (.iastore, 1) := by decide +kernel
theorem dX6_gauge_92 : decode cX6_gauge 92 = .ok (.aload_n 0, 1) := by decide +kernel
theorem dX6_gauge_93 : decode cX6_gauge 93 = .ok (.dup, 1) := by decide +kernel
theorem dX6_gauge_94 : decode cX6_gauge 94 = .ok (.getfield 393, 3) := by decide +kernel
theorem dX6_gauge_97 : decode cX6_gauge 97 = .ok (.iconst 1, 1) := by decide +kernel
theorem dX6_gauge_98 : decode cX6_gauge 98 = .ok (.iadd, 1) := by decide +kernel
theorem dX6_gauge_99 : decode cX6_gauge 99 = .ok (.putfield 393, 3) := by decide +kernel
theorem dX6_gauge_102 : decode cX6_gauge 102 = .ok (.aload_n 0, 1) := by decide +kernel
theorem dX6_gauge_103 : decode cX6_gauge 103 = .ok (.getfield 393, 3) := by decide +kernel
theorem dX6_gauge_106 : decode cX6_gauge 106 = .ok (.iconst 1, 1) := by decide +kernel
theorem dX6_gauge_107 : decode cX6_gauge 107 = .ok (.isub, 1) := by decide +kernel
theorem dX6_gauge_108 : decode cX6_gauge 108 = .ok (.ireturn, 1) := by decide +kernel
abbrev rm_X6_gauge : Room := k2_rm 3 65
section
variable {p : Program} {l : Launch} {e : Env} {s : State} {m : MethodId} {args : Array Value} {below : List Frame} {meth : Method} {c : Code} {D : gD} {A : Nat → Prop} {ad : Nat → Nat} {S : Nat → Nat × Nat} {σ : Mem}
set_option maxRecDepth 100000 in
set_option maxHeartbeats 4000000 in
theorem w_X6_gauge {a1 : Int32} {a2 : Int32} {a3 : Int32} {a4 : Int32} (hi0 : S 200 = (24, 0)) {r : (Mem × Int32)} (h : f_X6_gauge σ a1 a2 a3 a4 = some r) : Met l yX6_gauge (ws_ yX6_gauge cX6_gauge 5 (some .int)) rm_X6_gauge (va_Pc [.ref (ad 200), .int a1, .int a2, .int a3, .int a4] (PreG D (Ew D A) A ad S σ)) (QG D A ad S (some (.int r.2)) r.1) 0 0 A := by
  refine y_met (by decide) (Nat.le_of_ble_eq_true rfl) (fun p e s m below meth c ls Z hS hl => ?_)
  have hx := Z.1
  have hb := Z.2.1
  have hown := Z.2.2.2.2.2.1
  have hts := Z.2.2.2.2.2.2.1
  unfold f_X6_gauge at h
  refine lv_aload_n hx hb dX6_gauge_0 rfl (lv_at hl 0 rfl) ?_
  refine lv_iload_n hx hb dX6_gauge_1 rfl (lv_at hl 1 rfl) ?_
  refine lv_iload_n hx hb dX6_gauge_2 rfl (lv_at hl 2 rfl) ?_
  refine h_ci hS h (fun z hz => h_rV (rest := []) Z hS hi0 rfl v_X6_209 (w_X6_isCell hi0 hz) rfl rfl ⟨by decide, by decide⟩ rfl hl.1 rfl (Nat.le_of_ble_eq_true rfl) (Nat.zero_le _) (Nat.zero_le _) dX6_gauge_3) (fun x1 H locs hS h => ?_)
  refine lv_if_eq (tgt := 41) hx hb dX6_gauge_6 (by decide) (fun c2 => ?_) (fun c2 => ?_)
  · have h := if_t h c2
    refine lv_iconst (v := (-1 : Int32)) hx hb dX6_gauge_41 (by decide) ?_
    exact h_iretm Z hS dX6_gauge_42 h
  · have h := if_f h c2
    refine lv_iload_n hx hb dX6_gauge_9 rfl (lv_at hl 3 rfl) ?_
    refine lv_iconst (v := (1 : Int32)) hx hb dX6_gauge_10 (by decide) ?_
    refine lv_sipush (v := (10000 : Int32)) hx hb dX6_gauge_11 (by decide) ?_
    refine h_ci hS h (fun z hz => h_rS (rest := []) Z hS v_X6_161 (w_X6_in hz) rfl rfl ⟨by decide, by decide⟩ rfl hl.1 rfl (Nat.le_of_ble_eq_true rfl) (Nat.zero_le _) (Nat.zero_le _) dX6_gauge_14) (fun x3 H locs hS h => ?_)
    refine lv_if_eq (tgt := 41) hx hb dX6_gauge_17 (by decide) (fun c4 => ?_) (fun c4 => ?_)
    · have h := if_t h c4
      refine lv_iconst (v := (-1 : Int32)) hx hb dX6_gauge_41 (by decide) ?_
      exact h_iretm Z hS dX6_gauge_42 h
    · have h := if_f h c4
      refine lv_iload hx hb dX6_gauge_20 (lv_at hl 4 rfl) ?_
      refine lv_iload_n hx hb dX6_gauge_22 rfl (lv_at hl 3 rfl) ?_
      refine lv_sipush (v := (10000 : Int32)) hx hb dX6_gauge_23 (by decide) ?_
      refine h_ci hS h (fun z hz => h_rS (rest := []) Z hS v_X6_161 (w_X6_in hz) rfl rfl ⟨by decide, by decide⟩ rfl hl.1 rfl (Nat.le_of_ble_eq_true rfl) (Nat.zero_le _) (Nat.zero_le _) dX6_gauge_26) (fun x5 H locs hS h => ?_)
      refine lv_if_eq (tgt := 41) hx hb dX6_gauge_29 (by decide) (fun c6 => ?_) (fun c6 => ?_)
      · have h := if_t h c6
        refine lv_iconst (v := (-1 : Int32)) hx hb dX6_gauge_41 (by decide) ?_
        exact h_iretm Z hS dX6_gauge_42 h
      · have h := if_f h c6
        refine lv_aload_n hx hb dX6_gauge_32 rfl (lv_at hl 0 rfl) ?_
        refine h_getI Z hS cls_14 hi0 (by decide) rfl fl_X6_393_14 dX6_gauge_33 h (fun x7 h => ?_)
        refine lv_bipush (v := (100 : Int32)) hx hb dX6_gauge_36 (by decide) ?_
        refine lv_icmp_ne (tgt := 43) hx hb dX6_gauge_38 (by decide) (fun c8 => ?_) (fun c8 => ?_)
        · have h := if_f h c8
          refine lv_aload_n hx hb dX6_gauge_43 rfl (lv_at hl 0 rfl) ?_
          refine h_getC (n := 59) (j := 259) (sh := (1, 100)) Z hS cls_14 hi0 (by decide) rfl rfl rfl fl_X6_145_14 dX6_gauge_44 (fun hc9 => ?_)
          refine lv_aload_n hx hb dX6_gauge_47 rfl (lv_at hl 0 rfl) ?_
          refine h_getI Z hS cls_14 hi0 (by decide) rfl fl_X6_393_14 dX6_gauge_48 h (fun x10 h => ?_)
          refine lv_bipush (v := (10 : Int32)) hx hb dX6_gauge_51 (by decide) ?_
          refine lv_iload_n hx hb dX6_gauge_53 rfl (lv_at hl 1 rfl) ?_
          refine lv_imul hx hb dX6_gauge_54 ?_
          refine lv_iload_n hx hb dX6_gauge_55 rfl (lv_at hl 2 rfl) ?_
          refine lv_iadd hx hb dX6_gauge_56 ?_
          refine h_iast Z hS hc9 dX6_gauge_57 h (fun σ11 H locs hS h => ?_)
          refine lv_aload_n hx hb dX6_gauge_58 rfl (lv_at hl 0 rfl) ?_
          refine h_getC (n := 60) (j := 260) (sh := (1, 100)) Z hS cls_14 hi0 (by decide) rfl rfl rfl fl_X6_148_14 dX6_gauge_59 (fun hc12 => ?_)
          refine lv_aload_n hx hb dX6_gauge_62 rfl (lv_at hl 0 rfl) ?_
          refine h_getI Z hS cls_14 hi0 (by decide) rfl fl_X6_393_14 dX6_gauge_63 h (fun x13 h => ?_)
          refine lv_iload_n hx hb dX6_gauge_66 rfl (lv_at hl 3 rfl) ?_
          refine h_iast Z hS hc12 dX6_gauge_67 h (fun σ14 H locs hS h => ?_)
          refine lv_aload_n hx hb dX6_gauge_68 rfl (lv_at hl 0 rfl) ?_
          refine h_getC (n := 61) (j := 261) (sh := (1, 100)) Z hS cls_14 hi0 (by decide) rfl rfl rfl fl_X6_151_14 dX6_gauge_69 (fun hc15 => ?_)
          refine lv_aload_n hx hb dX6_gauge_72 rfl (lv_at hl 0 rfl) ?_
          refine h_getI Z hS cls_14 hi0 (by decide) rfl fl_X6_393_14 dX6_gauge_73 h (fun x16 h => ?_)
          refine lv_iload hx hb dX6_gauge_76 (lv_at hl 4 rfl) ?_
          refine h_iast Z hS hc15 dX6_gauge_78 h (fun σ17 H locs hS h => ?_)
          refine lv_aload_n hx hb dX6_gauge_79 rfl (lv_at hl 0 rfl) ?_
          refine h_getC (n := 62) (j := 262) (sh := (1, 100)) Z hS cls_14 hi0 (by decide) rfl rfl rfl fl_X6_154_14 dX6_gauge_80 (fun hc18 => ?_)
          refine lv_aload_n hx hb dX6_gauge_83 rfl (lv_at hl 0 rfl) ?_
          refine h_getI Z hS cls_14 hi0 (by decide) rfl fl_X6_393_14 dX6_gauge_84 h (fun x19 h => ?_)
          refine lv_aload_n hx hb dX6_gauge_87 rfl (lv_at hl 0 rfl) ?_
          refine h_getI Z hS cls_14 hi0 (by decide) rfl fl_X6_330_14 dX6_gauge_88 h (fun x20 h => ?_)
          refine h_iast Z hS hc18 dX6_gauge_91 h (fun σ21 H locs hS h => ?_)
          refine lv_aload_n hx hb dX6_gauge_92 rfl (lv_at hl 0 rfl) ?_
          refine lv_dup hx hb dX6_gauge_93 rfl ?_
          refine h_getI Z hS cls_14 hi0 (by decide) rfl fl_X6_393_14 dX6_gauge_94 h (fun x22 h => ?_)
          refine lv_iconst (v := (1 : Int32)) hx hb dX6_gauge_97 (by decide) ?_
          refine lv_iadd hx hb dX6_gauge_98 ?_
          refine h_putI Z hS cls_14 hi0 (by decide) rfl rfl rfl fl_X6_393_14 dX6_gauge_99 h (fun σ23 H locs hS h => ?_)
          refine lv_aload_n hx hb dX6_gauge_102 rfl (lv_at hl 0 rfl) ?_
          refine h_getI Z hS cls_14 hi0 (by decide) rfl fl_X6_393_14 dX6_gauge_103 h (fun x24 h => ?_)
          refine lv_iconst (v := (1 : Int32)) hx hb dX6_gauge_106 (by decide) ?_
          refine lv_isub hx hb dX6_gauge_107 ?_
          exact h_iretm Z hS dX6_gauge_108 h
        · have h := if_t h c8
          refine lv_iconst (v := (-1 : Int32)) hx hb dX6_gauge_41 (by decide) ?_
          exact h_iretm Z hS dX6_gauge_42 h
end
theorem dX6_isAsked_0 : decode cX6_isAsked 0 = .ok (.aload_n 0, 1) := by decide +kernel
theorem dX6_isAsked_1 : decode cX6_isAsked 1 = .ok (.iload_n 1, 1) := by decide +kernel
theorem dX6_isAsked_2 : decode cX6_isAsked 2 = .ok (.iload_n 2, 1) := by decide +kernel
theorem dX6_isAsked_3 : decode cX6_isAsked 3 = .ok (.invokevirtual 209, 3) := by decide +kernel
theorem dX6_isAsked_6 : decode cX6_isAsked 6 = .ok (.ifCond .eq 19, 3) := by decide +kernel
theorem dX6_isAsked_9 : decode cX6_isAsked 9 = .ok (.iload_n 3, 1) := by decide +kernel
theorem dX6_isAsked_10 : decode cX6_isAsked 10 = .ok (.iconst 0, 1) := by decide +kernel
theorem dX6_isAsked_11 : decode cX6_isAsked 11 = .ok (.aload_n 0, 1) := by decide +kernel
theorem dX6_isAsked_12 : decode cX6_isAsked 12 = .ok (.getfield 330, 3) := by decide +kernel
theorem dX6_isAsked_15 : decode cX6_isAsked 15 = .ok (.invokestatic 161, 3) := by decide +kernel
theorem dX6_isAsked_18 : decode cX6_isAsked 18 = .ok (.ifCond .eq 7, 3) := by decide +kernel
theorem dX6_isAsked_21 : decode cX6_isAsked 21 = .ok (.iconst 1, 1) := by decide +kernel
theorem dX6_isAsked_22 : decode cX6_isAsked 22 = .ok (.goto 4, 3) := by decide +kernel
theorem dX6_isAsked_25 : decode cX6_isAsked 25 = .ok (.iconst 0, 1) := by decide +kernel
theorem dX6_isAsked_26 : decode cX6_isAsked 26 = .ok (.ireturn, 1) := by decide +kernel
abbrev rm_X6_isAsked : Room := k2_rm 3 65
section
variable {p : Program} {l : Launch} {e : Env} {s : State} {m : MethodId} {args : Array Value} {below : List Frame} {meth : Method} {c : Code} {D : gD} {A : Nat → Prop} {ad : Nat → Nat} {S : Nat → Nat × Nat} {σ : Mem}
set_option maxRecDepth 100000 in
set_option maxHeartbeats 4000000 in
theorem w_X6_isAsked {a1 : Int32} {a2 : Int32} {a3 : Int32} (hi0 : S 200 = (24, 0)) {r : Int32} (h : f_X6_isAsked σ a1 a2 a3 = some r) : Met l yX6_isAsked (ws_ yX6_isAsked cX6_isAsked 4 (some .boolean)) rm_X6_isAsked (va_Pc [.ref (ad 200), .int a1, .int a2, .int a3] (PreG D (Ew D A) A ad S σ)) (QG D A ad S (some (.int r)) σ) 0 0 A := by
  refine y_met (by decide) (Nat.le_of_ble_eq_true rfl) (fun p e s m below meth c ls Z hS hl => ?_)
  have hx := Z.1
  have hb := Z.2.1
  have hown := Z.2.2.2.2.2.1
  have hts := Z.2.2.2.2.2.2.1
  unfold f_X6_isAsked at h
  refine lv_aload_n hx hb dX6_isAsked_0 rfl (lv_at hl 0 rfl) ?_
  refine lv_iload_n hx hb dX6_isAsked_1 rfl (lv_at hl 1 rfl) ?_
  refine lv_iload_n hx hb dX6_isAsked_2 rfl (lv_at hl 2 rfl) ?_
  refine h_ci hS h (fun z hz => h_rV (rest := []) Z hS hi0 rfl v_X6_209 (w_X6_isCell hi0 hz) rfl rfl ⟨by decide, by decide⟩ rfl hl.1 rfl (Nat.le_of_ble_eq_true rfl) (Nat.zero_le _) (Nat.zero_le _) dX6_isAsked_3) (fun x1 H locs hS h => ?_)
  refine lv_if_eq (tgt := 25) hx hb dX6_isAsked_6 (by decide) (fun c2 => ?_) (fun c2 => ?_)
  · have h := if_t h c2
    refine lv_iconst (v := (0 : Int32)) hx hb dX6_isAsked_25 (by decide) ?_
    exact h_zret Z hS dX6_isAsked_26 h
  · have h := if_f h c2
    refine lv_iload_n hx hb dX6_isAsked_9 rfl (lv_at hl 3 rfl) ?_
    refine lv_iconst (v := (0 : Int32)) hx hb dX6_isAsked_10 (by decide) ?_
    refine lv_aload_n hx hb dX6_isAsked_11 rfl (lv_at hl 0 rfl) ?_
    refine h_getI Z hS cls_14 hi0 (by decide) rfl fl_X6_330_14 dX6_isAsked_12 h (fun x3 h => ?_)
    refine h_ci hS h (fun z hz => h_rS (rest := []) Z hS v_X6_161 (w_X6_in hz) rfl rfl ⟨by decide, by decide⟩ rfl hl.1 rfl (Nat.le_of_ble_eq_true rfl) (Nat.zero_le _) (Nat.zero_le _) dX6_isAsked_15) (fun x4 H locs hS h => ?_)
    refine lv_if_eq (tgt := 25) hx hb dX6_isAsked_18 (by decide) (fun c5 => ?_) (fun c5 => ?_)
    · have h := if_t h c5
      refine lv_iconst (v := (0 : Int32)) hx hb dX6_isAsked_25 (by decide) ?_
      exact h_zret Z hS dX6_isAsked_26 h
    · have h := if_f h c5
      refine lv_iconst (v := (1 : Int32)) hx hb dX6_isAsked_21 (by decide) ?_
      refine lv_goto (tgt := 26) hx hb dX6_isAsked_22 (by decide) ?_
      exact h_zret Z hS dX6_isAsked_26 h
end
theorem dX6_agrees_0 : decode cX6_agrees 0 = .ok (.aload_n 0, 1) := by decide +kernel
theorem dX6_agrees_1 : decode cX6_agrees 1 = .ok (.getfield 22, 3) := by decide +kernel
theorem dX6_agrees_4 : decode cX6_agrees 4 = .ok (.iload_n 1, 1) := by decide +kernel
theorem dX6_agrees_5 : decode cX6_agrees 5 = .ok (.iaload, 1) := by decide +kernel
theorem dX6_agrees_6 : decode cX6_agrees 6 = .ok (.aload_n 0, 1) := by decide +kernel
theorem dX6_agrees_7 : decode cX6_agrees 7 = .ok (.getfield 28, 3) := by decide +kernel
theorem dX6_agrees_10 : decode cX6_agrees 10 = .ok (.iload_n 1, 1) := by decide +kernel
theorem dX6_agrees_11 : decode cX6_agrees 11 = .ok (.iaload, 1) := by decide +kernel
theorem dX6_agrees_12 : decode cX6_agrees 12 = .ok (.iload_n 2, 1) := by decide +kernel
theorem dX6_agrees_13 : decode cX6_agrees 13 = .ok (.invokestatic 181, 3) := by decide +kernel
theorem dX6_agrees_16 : decode cX6_agrees 16 = .ok (.invokestatic 188, 3) := by decide +kernel
theorem dX6_agrees_19 : decode cX6_agrees 19 = .ok (.istore 5, 2) := by decide +kernel
theorem dX6_agrees_21 : decode cX6_agrees 21 = .ok (.iconst 0, 1) := by decide +kernel
theorem dX6_agrees_22 : decode cX6_agrees 22 = .ok (.istore 6, 2) := by decide +kernel
theorem dX6_agrees_24 : decode cX6_agrees 24 = .ok (.iload 6, 2) := by decide +kernel
theorem dX6_agrees_26 : decode cX6_agrees 26 = .ok (.iload 4, 2) := by decide +kernel
theorem dX6_agrees_28 : decode cX6_agrees 28 = .ok (.if_icmp .ge 55, 3) := by decide +kernel
theorem dX6_agrees_31 : decode cX6_agrees 31 = .ok (.aload_n 0, 1) := by decide +kernel
theorem dX6_agrees_32 : decode cX6_agrees 32 = .ok (.getfield 145, 3) := by decide +kernel
theorem dX6_agrees_35 : decode cX6_agrees 35 = .ok (.iload 6, 2) := by decide +kernel
theorem dX6_agrees_37 : decode cX6_agrees 37 = .ok (.iaload, 1) := by decide +kernel
theorem dX6_agrees_38 : decode cX6_agrees 38 = .ok (.iload_n 1, 1) := by decide +kernel
theorem dX6_agrees_39 : decode cX6_agrees 39 = .ok (.if_icmp .ne 38, 3) := by decide +kernel
theorem dX6_agrees_42 : decode cX6_agrees 42 = .ok (.aload_n 0, 1) := by decide +kernel
theorem dX6_agrees_43 : decode cX6_agrees 43 = .ok (.getfield 154, 3) := by decide +kernel
theorem dX6_agrees_46 : decode cX6_agrees 46 = .ok (.iload 6, 2) := by decide +kernel
theorem dX6_agrees_48 : decode cX6_agrees 48 = .ok (.iaload, 1) := by decide +kernel
theorem dX6_agrees_49 : decode cX6_agrees 49 = .ok (.iload_n 3, 1) := by decide +kernel
theorem dX6_agrees_50 : decode cX6_agrees 50 = .ok (.if_icmp .gt 27, 3) := by decide +kernel
theorem dX6_agrees_53 : decode cX6_agrees 53 = .ok (.iload 5, 2) := by decide +kernel
theorem dX6_agrees_55 : decode cX6_agrees 55 = .ok (.aload_n 0, 1) := by decide +kernel
theorem dX6_agrees_56 : decode cX6_agrees 56 = .ok (.getfield 148, 3) := by decide +kernel
theorem dX6_agrees_59 : decode cX6_agrees 59 = .ok (.iload 6, 2) := by decide +kernel
theorem dX6_agrees_61 : decode cX6_agrees 61 = .ok (.iaload, 1) := by decide +kernel
theorem dX6_agrees_62 : decode cX6_agrees 62 = .ok (.aload_n 0, 1) := by decide +kernel
theorem dX6_agrees_63 : decode cX6_agrees 63 = .ok (.getfield 151, 3) := by decide +kernel
theorem dX6_agrees_66 : decode cX6_agrees 66 = .ok (.iload 6, 2) := by decide +kernel
theorem dX6_agrees_68 : decode cX6_agrees 68 = .ok (.iaload, 1) := by decide +kernel
theorem dX6_agrees_69 : decode cX6_agrees 69 = .ok (.invokestatic 161, 3) := by decide +kernel
theorem dX6_agrees_72 : decode cX6_agrees 72 = .ok (.ifCond .ne 5, 3) := by decide +kernel
theorem dX6_agrees_75 : decode cX6_agrees 75 = .ok (.iconst 0, 1) := by decide +kernel
theorem dX6_agrees_76 : decode cX6_agrees 76 = .ok (.ireturn, 1) := by decide +kernel
theorem dX6_agrees_77 : decode cX6_agrees 77 = .ok (.iinc 6 1, 3) := by decide +kernel
theorem dX6_agrees_80 : decode cX6_agrees 80 = .ok (.goto (-56), 3) := by decide +kernel
theorem dX6_agrees_83 : decode cX6_agrees 83 = .ok (.iconst 1, 1) := by decide +kernel
theorem dX6_agrees_84 : decode cX6_agrees 84 = .ok (.ireturn, 1) := by decide +kernel
abbrev rm_X6_agrees : Room := k2_rm 2 35
section
variable {p : Program} {l : Launch} {e : Env} {s : State} {m : MethodId} {args : Array Value} {below : List Frame} {meth : Method} {c : Code} {D : gD} {A : Nat → Prop} {ad : Nat → Nat} {S : Nat → Nat × Nat} {σ : Mem}
set_option maxRecDepth 100000 in
set_option maxHeartbeats 4000000 in
theorem w_X6_agrees_L24 (Z : Cz D (Ew D A) A cX6_agrees 7 (some .boolean) RX6 p s m args meth c) {u1 : Int32} {u3 : Int32} {u4 : Int32} {u5 : Int32} (hu0 : S 200 = (24, 0)) {r : Int32} {k75 : Option Int32} {k83 : Option Int32}
    (hk75 : ∀  (H : Heap) (locs : List Loc) (ls : Array Slot), St D A ad S σ s.heap H locs → lv_has ls 7 [] → k75 = some r → W p l e rm_X6_agrees s m args below meth c H locs 0 0 (MQ below (QG D A ad S (some (.int r)) σ) args s 0 0 A) (F0 m 75 ls []))
    (hk83 : ∀  (H : Heap) (locs : List Loc) (ls : Array Slot), St D A ad S σ s.heap H locs → lv_has ls 7 [] → k83 = some r → W p l e rm_X6_agrees s m args below meth c H locs 0 0 (MQ below (QG D A ad S (some (.int r)) σ) args s 0 0 A) (F0 m 83 ls [])) :
    ∀ (n : Nat) (v6 : Int32) (H : Heap) (locs : List Loc) (ls : Array Slot), St D A ad S σ s.heap H locs → lv_has ls 7 [(0, .ref (ad 200)), (1, .int u1), (3, .int u3), (4, .int u4), (5, .int u5), (6, .int v6)] → f_X6_agrees_L24 k75 k83 σ u1 u3 u4 u5 n v6 = some r → W p l e rm_X6_agrees s m args below meth c H locs 0 0 (MQ below (QG D A ad S (some (.int r)) σ) args s 0 0 A) (F0 m 24 ls []) := by
  have hx := Z.1
  have hb := Z.2.1
  have hown := Z.2.2.2.2.2.1
  have hts := Z.2.2.2.2.2.2.1
  intro n
  induction n with
  | zero => intro v6 H locs ls hS hl h; cases h
  | succ n ih =>
    intro v6 H locs ls hS hl h
    unfold f_X6_agrees_L24 at h
    refine lv_iload hx hb dX6_agrees_24 (lv_at hl 5 rfl) ?_
    refine lv_iload hx hb dX6_agrees_26 (lv_at hl 3 rfl) ?_
    refine lv_icmp_ge (tgt := 83) hx hb dX6_agrees_28 (by decide) (fun c7 => ?_) (fun c7 => ?_)
    · have h := if_t h c7
      exact hk83  _ _ _ hS (lv_sub hl [] rfl) h
    · have h := if_f h c7
      refine lv_aload_n hx hb dX6_agrees_31 rfl (lv_at hl 0 rfl) ?_
      refine h_getC (n := 59) (j := 259) (sh := (1, 100)) Z hS cls_14 hu0 (by decide) rfl rfl rfl fl_X6_145_14 dX6_agrees_32 (fun hc8 => ?_)
      refine lv_iload hx hb dX6_agrees_35 (lv_at hl 5 rfl) ?_
      refine h_iald Z hS hc8 dX6_agrees_37 h (fun x9 h => ?_)
      refine lv_iload_n hx hb dX6_agrees_38 rfl (lv_at hl 1 rfl) ?_
      refine lv_icmp_ne (tgt := 77) hx hb dX6_agrees_39 (by decide) (fun c10 => ?_) (fun c10 => ?_)
      · have h := if_f h c10
        refine lv_iinc (v := (v6 + (1 : Int32))) (lv' := [(6, .int (v6 + (1 : Int32))), (0, .ref (ad 200)), (1, .int u1), (3, .int u3), (4, .int u4), (5, .int u5)]) hx hb dX6_agrees_77 hl (k := 5) rfl rfl (by decide) rfl (fun ls hl => ?_)
        refine lv_goto (tgt := 24) hx hb dX6_agrees_80 (by decide) ?_
        exact ih _ _ _ _ hS (lv_sub hl [1, 2, 3, 4, 5, 0] rfl) h
      · have h := if_t h c10
        refine lv_aload_n hx hb dX6_agrees_42 rfl (lv_at hl 0 rfl) ?_
        refine h_getC (n := 62) (j := 262) (sh := (1, 100)) Z hS cls_14 hu0 (by decide) rfl rfl rfl fl_X6_154_14 dX6_agrees_43 (fun hc11 => ?_)
        refine lv_iload hx hb dX6_agrees_46 (lv_at hl 5 rfl) ?_
        refine h_iald Z hS hc11 dX6_agrees_48 h (fun x12 h => ?_)
        refine lv_iload_n hx hb dX6_agrees_49 rfl (lv_at hl 2 rfl) ?_
        refine lv_icmp_gt (tgt := 77) hx hb dX6_agrees_50 (by decide) (fun c13 => ?_) (fun c13 => ?_)
        · have h := if_t h c13
          refine lv_iinc (v := (v6 + (1 : Int32))) (lv' := [(6, .int (v6 + (1 : Int32))), (0, .ref (ad 200)), (1, .int u1), (3, .int u3), (4, .int u4), (5, .int u5)]) hx hb dX6_agrees_77 hl (k := 5) rfl rfl (by decide) rfl (fun ls hl => ?_)
          refine lv_goto (tgt := 24) hx hb dX6_agrees_80 (by decide) ?_
          exact ih _ _ _ _ hS (lv_sub hl [1, 2, 3, 4, 5, 0] rfl) h
        · have h := if_f h c13
          refine lv_iload hx hb dX6_agrees_53 (lv_at hl 4 rfl) ?_
          refine lv_aload_n hx hb dX6_agrees_55 rfl (lv_at hl 0 rfl) ?_
          refine h_getC (n := 60) (j := 260) (sh := (1, 100)) Z hS cls_14 hu0 (by decide) rfl rfl rfl fl_X6_148_14 dX6_agrees_56 (fun hc14 => ?_)
          refine lv_iload hx hb dX6_agrees_59 (lv_at hl 5 rfl) ?_
          refine h_iald Z hS hc14 dX6_agrees_61 h (fun x15 h => ?_)
          refine lv_aload_n hx hb dX6_agrees_62 rfl (lv_at hl 0 rfl) ?_
          refine h_getC (n := 61) (j := 261) (sh := (1, 100)) Z hS cls_14 hu0 (by decide) rfl rfl rfl fl_X6_151_14 dX6_agrees_63 (fun hc16 => ?_)
          refine lv_iload hx hb dX6_agrees_66 (lv_at hl 5 rfl) ?_
          refine h_iald Z hS hc16 dX6_agrees_68 h (fun x17 h => ?_)
          refine h_ci hS h (fun z hz => h_rS (rest := []) Z hS v_X6_161 (w_X6_in hz) rfl rfl ⟨by decide, by decide⟩ rfl hl.1 rfl (Nat.le_of_ble_eq_true rfl) (Nat.zero_le _) (Nat.zero_le _) dX6_agrees_69) (fun x18 H locs hS h => ?_)
          refine lv_if_ne (tgt := 77) hx hb dX6_agrees_72 (by decide) (fun c19 => ?_) (fun c19 => ?_)
          · have h := if_f h c19
            refine lv_iinc (v := (v6 + (1 : Int32))) (lv' := [(6, .int (v6 + (1 : Int32))), (0, .ref (ad 200)), (1, .int u1), (3, .int u3), (4, .int u4), (5, .int u5)]) hx hb dX6_agrees_77 hl (k := 5) rfl rfl (by decide) rfl (fun ls hl => ?_)
            refine lv_goto (tgt := 24) hx hb dX6_agrees_80 (by decide) ?_
            exact ih _ _ _ _ hS (lv_sub hl [1, 2, 3, 4, 5, 0] rfl) h
          · have h := if_t h c19
            exact hk75  _ _ _ hS (lv_sub hl [] rfl) h
set_option maxRecDepth 100000 in
set_option maxHeartbeats 4000000 in
theorem w_X6_agrees {a1 : Int32} {a2 : Int32} {a3 : Int32} {a4 : Int32} (hi0 : S 200 = (24, 0)) {r : Int32} (h : f_X6_agrees σ a1 a2 a3 a4 = some r) : Met l yX6_agrees (ws_ yX6_agrees cX6_agrees 7 (some .boolean)) rm_X6_agrees (va_Pc [.ref (ad 200), .int a1, .int a2, .int a3, .int a4] (PreG D (Ew D A) A ad S σ)) (QG D A ad S (some (.int r)) σ) 0 0 A := by
  refine y_met (by decide) (Nat.le_of_ble_eq_true rfl) (fun p e s m below meth c ls Z hS hl => ?_)
  have hx := Z.1
  have hb := Z.2.1
  have hown := Z.2.2.2.2.2.1
  have hts := Z.2.2.2.2.2.2.1
  unfold f_X6_agrees at h
  refine lv_aload_n hx hb dX6_agrees_0 rfl (lv_at hl 0 rfl) ?_
  refine h_getC (n := 7) (j := 207) (sh := (1, 90)) Z hS cls_14 hi0 (by decide) rfl rfl rfl fl_X6_22_14 dX6_agrees_1 (fun hc1 => ?_)
  refine lv_iload_n hx hb dX6_agrees_4 rfl (lv_at hl 1 rfl) ?_
  refine h_iald Z hS hc1 dX6_agrees_5 h (fun x2 h => ?_)
  refine lv_aload_n hx hb dX6_agrees_6 rfl (lv_at hl 0 rfl) ?_
  refine h_getC (n := 9) (j := 209) (sh := (1, 90)) Z hS cls_14 hi0 (by decide) rfl rfl rfl fl_X6_28_14 dX6_agrees_7 (fun hc3 => ?_)
  refine lv_iload_n hx hb dX6_agrees_10 rfl (lv_at hl 1 rfl) ?_
  refine h_iald Z hS hc3 dX6_agrees_11 h (fun x4 h => ?_)
  refine lv_iload_n hx hb dX6_agrees_12 rfl (lv_at hl 2 rfl) ?_
  refine h_ci hS h (fun z hz => h_rS (rest := []) Z hS v_X6_181 (w_X6_widthOf hz) rfl rfl ⟨by decide, by decide⟩ rfl hl.1 rfl (Nat.le_of_ble_eq_true rfl) (Nat.zero_le _) (Nat.zero_le _) dX6_agrees_13) (fun x5 H locs hS h => ?_)
  refine h_ci hS h (fun z hz => h_rS (rest := []) Z hS v_X6_188 (w_X6_resistOf hz) rfl rfl ⟨by decide, by decide⟩ rfl hl.1 rfl (Nat.le_of_ble_eq_true rfl) (Nat.zero_le _) (Nat.zero_le _) dX6_agrees_16) (fun x6 H locs hS h => ?_)
  refine lv_istore (lv' := [(5, .int x6), (0, .ref (ad 200)), (1, .int a1), (2, .int a2), (3, .int a3), (4, .int a4)]) hx hb dX6_agrees_19 hl (by decide) rfl (fun ls hl => ?_)
  refine lv_iconst (v := (0 : Int32)) hx hb dX6_agrees_21 (by decide) ?_
  refine lv_istore (lv' := [(6, .int (0 : Int32)), (5, .int x6), (0, .ref (ad 200)), (1, .int a1), (2, .int a2), (3, .int a3), (4, .int a4)]) hx hb dX6_agrees_22 hl (by decide) rfl (fun ls hl => ?_)
  refine w_X6_agrees_L24 Z hi0 (fun  H locs ls hS hl h => ?_) (fun  H locs ls hS hl h => ?_) FU _ _ _ _ hS (lv_sub hl [2, 3, 5, 6, 1, 0] rfl) h
  · refine lv_iconst (v := (0 : Int32)) hx hb dX6_agrees_75 (by decide) ?_
    exact h_zret Z hS dX6_agrees_76 h
  · refine lv_iconst (v := (1 : Int32)) hx hb dX6_agrees_83 (by decide) ?_
    exact h_zret Z hS dX6_agrees_84 h
end
theorem dX6_readBack_0 : decode cX6_readBack 0 = .ok (.iconst (-1), 1) := by decide +kernel
theorem dX6_readBack_1 : decode cX6_readBack 1 = .ok (.istore 5, 2) := by decide +kernel
theorem dX6_readBack_3 : decode cX6_readBack 3 = .ok (.iconst 0, 1) := by decide +kernel
theorem dX6_readBack_4 : decode cX6_readBack 4 = .ok (.istore 6, 2) := by decide +kernel
theorem dX6_readBack_6 : decode cX6_readBack 6 = .ok (.iload 6, 2) := by decide +kernel
theorem dX6_readBack_8 : decode cX6_readBack 8 = .ok (.aload_n 0, 1) := by decide +kernel
theorem dX6_readBack_9 : decode cX6_readBack 9 = .ok (.getfield 22, 3) := by decide +kernel
theorem dX6_readBack_12 : decode cX6_readBack 12 = .ok (.iload_n 1, 1) := by decide +kernel
theorem dX6_readBack_13 : decode cX6_readBack 13 = .ok (.iaload, 1) := by decide +kernel
theorem dX6_readBack_14 : decode cX6_readBack 14 = .ok (.aload_n 0, 1) := by decide +kernel
theorem dX6_readBack_15 : decode cX6_readBack 15 = .ok (.getfield 28, 3) := by decide +kernel
theorem dX6_readBack_18 : decode cX6_readBack 18 = .ok (.iload_n 1, 1) := by decide +kernel
theorem dX6_readBack_19 : decode cX6_readBack 19 = .ok (.iaload, 1) := by decide +kernel
theorem dX6_readBack_20 : decode cX6_readBack 20 = .ok (.imul, 1) := by decide +kernel
theorem dX6_readBack_21 : decode cX6_readBack 21 = .ok (.if_icmp .ge 37, 3) := by decide +kernel
theorem dX6_readBack_24 : decode cX6_readBack 24 = .ok (.iload 4, 2) := by decide +kernel
theorem dX6_readBack_26 : decode cX6_readBack 26 = .ok (.iconst 1, 1) := by decide +kernel
theorem dX6_readBack_27 : decode cX6_readBack 27 = .ok (.if_icmp .eq 9, 3) := by decide +kernel
theorem dX6_readBack_30 : decode cX6_readBack 30 = .ok (.iload 5, 2) := by decide +kernel
theorem dX6_readBack_32 : decode cX6_readBack 32 = .ok (.iconst (-1), 1) := by decide +kernel
theorem dX6_readBack_33 : decode cX6_readBack 33 = .ok (.if_icmp .ne 19, 3) := by decide +kernel
theorem dX6_readBack_36 : decode cX6_readBack 36 = .ok (.aload_n 0, 1) := by decide +kernel
theorem dX6_readBack_37 : decode cX6_readBack 37 = .ok (.iload_n 1, 1) := by decide +kernel
theorem dX6_readBack_38 : decode cX6_readBack 38 = .ok (.iload 6, 2) := by decide +kernel
theorem dX6_readBack_40 : decode cX6_readBack 40 = .ok (.iload_n 2, 1) := by decide +kernel
theorem dX6_readBack_41 : decode cX6_readBack 41 = .ok (.iload_n 3, 1) := by decide +kernel
theorem dX6_readBack_42 : decode cX6_readBack 42 = .ok (.invokevirtual 396, 3) := by decide +kernel
theorem dX6_readBack_45 : decode cX6_readBack 45 = .ok (.ifCond .eq 7, 3) := by decide +kernel
theorem dX6_readBack_48 : decode cX6_readBack 48 = .ok (.iload 6, 2) := by decide +kernel
theorem dX6_readBack_50 : decode cX6_readBack 50 = .ok (.istore 5, 2) := by decide +kernel
theorem dX6_readBack_52 : decode cX6_readBack 52 = .ok (.iinc 6 1, 3) := by decide +kernel
theorem dX6_readBack_55 : decode cX6_readBack 55 = .ok (.goto (-49), 3) := by decide +kernel
theorem dX6_readBack_58 : decode cX6_readBack 58 = .ok (.iload 5, 2) := by decide +kernel
theorem dX6_readBack_60 : decode cX6_readBack 60 = .ok (.ireturn, 1) := by decide +kernel
abbrev rm_X6_readBack : Room := k2_rm 3 61
section
variable {p : Program} {l : Launch} {e : Env} {s : State} {m : MethodId} {args : Array Value} {below : List Frame} {meth : Method} {c : Code} {D : gD} {A : Nat → Prop} {ad : Nat → Nat} {S : Nat → Nat × Nat} {σ : Mem}
set_option maxRecDepth 100000 in
set_option maxHeartbeats 4000000 in
theorem w_X6_readBack_L6 (Z : Cz D (Ew D A) A cX6_readBack 7 (some .int) RX6 p s m args meth c) {u1 : Int32} {u2 : Int32} {u3 : Int32} {u4 : Int32} (hu0 : S 200 = (24, 0)) {r : Int32} {k58 : Int32 → Option Int32}
    (hk58 : ∀ (w5 : Int32) (H : Heap) (locs : List Loc) (ls : Array Slot), St D A ad S σ s.heap H locs → lv_has ls 7 [(5, .int w5)] → k58 w5 = some r → W p l e rm_X6_readBack s m args below meth c H locs 0 0 (MQ below (QG D A ad S (some (.int r)) σ) args s 0 0 A) (F0 m 58 ls [])) :
    ∀ (n : Nat) (v5 : Int32) (v6 : Int32) (H : Heap) (locs : List Loc) (ls : Array Slot), St D A ad S σ s.heap H locs → lv_has ls 7 [(0, .ref (ad 200)), (1, .int u1), (2, .int u2), (3, .int u3), (4, .int u4), (5, .int v5), (6, .int v6)] → f_X6_readBack_L6 k58 σ u1 u2 u3 u4 n v5 v6 = some r → W p l e rm_X6_readBack s m args below meth c H locs 0 0 (MQ below (QG D A ad S (some (.int r)) σ) args s 0 0 A) (F0 m 6 ls []) := by
  have hx := Z.1
  have hb := Z.2.1
  have hown := Z.2.2.2.2.2.1
  have hts := Z.2.2.2.2.2.2.1
  intro n
  induction n with
  | zero => intro v5 v6 H locs ls hS hl h; cases h
  | succ n ih =>
    intro v5 v6 H locs ls hS hl h
    unfold f_X6_readBack_L6 at h
    refine lv_iload hx hb dX6_readBack_6 (lv_at hl 6 rfl) ?_
    refine lv_aload_n hx hb dX6_readBack_8 rfl (lv_at hl 0 rfl) ?_
    refine h_getC (n := 7) (j := 207) (sh := (1, 90)) Z hS cls_14 hu0 (by decide) rfl rfl rfl fl_X6_22_14 dX6_readBack_9 (fun hc1 => ?_)
    refine lv_iload_n hx hb dX6_readBack_12 rfl (lv_at hl 1 rfl) ?_
    refine h_iald Z hS hc1 dX6_readBack_13 h (fun x2 h => ?_)
    refine lv_aload_n hx hb dX6_readBack_14 rfl (lv_at hl 0 rfl) ?_
    refine h_getC (n := 9) (j := 209) (sh := (1, 90)) Z hS cls_14 hu0 (by decide) rfl rfl rfl fl_X6_28_14 dX6_readBack_15 (fun hc3 => ?_)
    refine lv_iload_n hx hb dX6_readBack_18 rfl (lv_at hl 1 rfl) ?_
    refine h_iald Z hS hc3 dX6_readBack_19 h (fun x4 h => ?_)
    refine lv_imul hx hb dX6_readBack_20 ?_
    refine lv_icmp_ge (tgt := 58) hx hb dX6_readBack_21 (by decide) (fun c5 => ?_) (fun c5 => ?_)
    · have h := if_t h c5
      exact hk58 _ _ _ _ hS (lv_sub hl [5] rfl) h
    · have h := if_f h c5
      refine lv_iload hx hb dX6_readBack_24 (lv_at hl 4 rfl) ?_
      refine lv_iconst (v := (1 : Int32)) hx hb dX6_readBack_26 (by decide) ?_
      refine lv_icmp_eq (tgt := 36) hx hb dX6_readBack_27 (by decide) (fun c6 => ?_) (fun c6 => ?_)
      · have h := if_t h c6
        refine lv_aload_n hx hb dX6_readBack_36 rfl (lv_at hl 0 rfl) ?_
        refine lv_iload_n hx hb dX6_readBack_37 rfl (lv_at hl 1 rfl) ?_
        refine lv_iload hx hb dX6_readBack_38 (lv_at hl 6 rfl) ?_
        refine lv_iload_n hx hb dX6_readBack_40 rfl (lv_at hl 2 rfl) ?_
        refine lv_iload_n hx hb dX6_readBack_41 rfl (lv_at hl 3 rfl) ?_
        refine h_ci hS h (fun z hz => h_rV (rest := []) Z hS hu0 rfl v_X6_396 (w_X6_agrees hu0 hz) rfl rfl ⟨by decide, by decide⟩ rfl hl.1 rfl (Nat.le_of_ble_eq_true rfl) (Nat.zero_le _) (Nat.zero_le _) dX6_readBack_42) (fun x7 H locs hS h => ?_)
        refine lv_if_eq (tgt := 52) hx hb dX6_readBack_45 (by decide) (fun c8 => ?_) (fun c8 => ?_)
        · have h := if_t h c8
          refine lv_iinc (v := (v6 + (1 : Int32))) (lv' := [(6, .int (v6 + (1 : Int32))), (0, .ref (ad 200)), (1, .int u1), (2, .int u2), (3, .int u3), (4, .int u4), (5, .int v5)]) hx hb dX6_readBack_52 hl (k := 6) rfl rfl (by decide) rfl (fun ls hl => ?_)
          refine lv_goto (tgt := 6) hx hb dX6_readBack_55 (by decide) ?_
          exact ih _ _ _ _ _ hS (lv_sub hl [1, 2, 3, 4, 5, 6, 0] rfl) h
        · have h := if_f h c8
          refine lv_iload hx hb dX6_readBack_48 (lv_at hl 6 rfl) ?_
          refine lv_istore (lv' := [(5, .int v6), (0, .ref (ad 200)), (1, .int u1), (2, .int u2), (3, .int u3), (4, .int u4), (6, .int v6)]) hx hb dX6_readBack_50 hl (by decide) rfl (fun ls hl => ?_)
          refine lv_iinc (v := (v6 + (1 : Int32))) (lv' := [(6, .int (v6 + (1 : Int32))), (5, .int v6), (0, .ref (ad 200)), (1, .int u1), (2, .int u2), (3, .int u3), (4, .int u4)]) hx hb dX6_readBack_52 hl (k := 6) rfl rfl (by decide) rfl (fun ls hl => ?_)
          refine lv_goto (tgt := 6) hx hb dX6_readBack_55 (by decide) ?_
          exact ih _ _ _ _ _ hS (lv_sub hl [2, 3, 4, 5, 6, 1, 0] rfl) h
      · have h := if_f h c6
        refine lv_iload hx hb dX6_readBack_30 (lv_at hl 5 rfl) ?_
        refine lv_iconst (v := (-1 : Int32)) hx hb dX6_readBack_32 (by decide) ?_
        refine lv_icmp_ne (tgt := 52) hx hb dX6_readBack_33 (by decide) (fun c9 => ?_) (fun c9 => ?_)
        · have h := if_f h c9
          refine lv_iinc (v := (v6 + (1 : Int32))) (lv' := [(6, .int (v6 + (1 : Int32))), (0, .ref (ad 200)), (1, .int u1), (2, .int u2), (3, .int u3), (4, .int u4), (5, .int v5)]) hx hb dX6_readBack_52 hl (k := 6) rfl rfl (by decide) rfl (fun ls hl => ?_)
          refine lv_goto (tgt := 6) hx hb dX6_readBack_55 (by decide) ?_
          exact ih _ _ _ _ _ hS (lv_sub hl [1, 2, 3, 4, 5, 6, 0] rfl) h
        · have h := if_t h c9
          refine lv_aload_n hx hb dX6_readBack_36 rfl (lv_at hl 0 rfl) ?_
          refine lv_iload_n hx hb dX6_readBack_37 rfl (lv_at hl 1 rfl) ?_
          refine lv_iload hx hb dX6_readBack_38 (lv_at hl 6 rfl) ?_
          refine lv_iload_n hx hb dX6_readBack_40 rfl (lv_at hl 2 rfl) ?_
          refine lv_iload_n hx hb dX6_readBack_41 rfl (lv_at hl 3 rfl) ?_
          refine h_ci hS h (fun z hz => h_rV (rest := []) Z hS hu0 rfl v_X6_396 (w_X6_agrees hu0 hz) rfl rfl ⟨by decide, by decide⟩ rfl hl.1 rfl (Nat.le_of_ble_eq_true rfl) (Nat.zero_le _) (Nat.zero_le _) dX6_readBack_42) (fun x10 H locs hS h => ?_)
          refine lv_if_eq (tgt := 52) hx hb dX6_readBack_45 (by decide) (fun c11 => ?_) (fun c11 => ?_)
          · have h := if_t h c11
            refine lv_iinc (v := (v6 + (1 : Int32))) (lv' := [(6, .int (v6 + (1 : Int32))), (0, .ref (ad 200)), (1, .int u1), (2, .int u2), (3, .int u3), (4, .int u4), (5, .int v5)]) hx hb dX6_readBack_52 hl (k := 6) rfl rfl (by decide) rfl (fun ls hl => ?_)
            refine lv_goto (tgt := 6) hx hb dX6_readBack_55 (by decide) ?_
            exact ih _ _ _ _ _ hS (lv_sub hl [1, 2, 3, 4, 5, 6, 0] rfl) h
          · have h := if_f h c11
            refine lv_iload hx hb dX6_readBack_48 (lv_at hl 6 rfl) ?_
            refine lv_istore (lv' := [(5, .int v6), (0, .ref (ad 200)), (1, .int u1), (2, .int u2), (3, .int u3), (4, .int u4), (6, .int v6)]) hx hb dX6_readBack_50 hl (by decide) rfl (fun ls hl => ?_)
            refine lv_iinc (v := (v6 + (1 : Int32))) (lv' := [(6, .int (v6 + (1 : Int32))), (5, .int v6), (0, .ref (ad 200)), (1, .int u1), (2, .int u2), (3, .int u3), (4, .int u4)]) hx hb dX6_readBack_52 hl (k := 6) rfl rfl (by decide) rfl (fun ls hl => ?_)
            refine lv_goto (tgt := 6) hx hb dX6_readBack_55 (by decide) ?_
            exact ih _ _ _ _ _ hS (lv_sub hl [2, 3, 4, 5, 6, 1, 0] rfl) h
set_option maxRecDepth 100000 in
set_option maxHeartbeats 4000000 in
theorem w_X6_readBack {a1 : Int32} {a2 : Int32} {a3 : Int32} {a4 : Int32} (hi0 : S 200 = (24, 0)) {r : Int32} (h : f_X6_readBack σ a1 a2 a3 a4 = some r) : Met l yX6_readBack (ws_ yX6_readBack cX6_readBack 7 (some .int)) rm_X6_readBack (va_Pc [.ref (ad 200), .int a1, .int a2, .int a3, .int a4] (PreG D (Ew D A) A ad S σ)) (QG D A ad S (some (.int r)) σ) 0 0 A := by
  refine y_met (by decide) (Nat.le_of_ble_eq_true rfl) (fun p e s m below meth c ls Z hS hl => ?_)
  have hx := Z.1
  have hb := Z.2.1
  have hown := Z.2.2.2.2.2.1
  have hts := Z.2.2.2.2.2.2.1
  unfold f_X6_readBack at h
  refine lv_iconst (v := (-1 : Int32)) hx hb dX6_readBack_0 (by decide) ?_
  refine lv_istore (lv' := [(5, .int (-1 : Int32)), (0, .ref (ad 200)), (1, .int a1), (2, .int a2), (3, .int a3), (4, .int a4)]) hx hb dX6_readBack_1 hl (by decide) rfl (fun ls hl => ?_)
  refine lv_iconst (v := (0 : Int32)) hx hb dX6_readBack_3 (by decide) ?_
  refine lv_istore (lv' := [(6, .int (0 : Int32)), (5, .int (-1 : Int32)), (0, .ref (ad 200)), (1, .int a1), (2, .int a2), (3, .int a3), (4, .int a4)]) hx hb dX6_readBack_4 hl (by decide) rfl (fun ls hl => ?_)
  refine w_X6_readBack_L6 Z hi0 (fun x12 H locs ls hS hl h => ?_) FU _ _ _ _ _ hS (lv_sub hl [2, 3, 4, 5, 6, 1, 0] rfl) h
  refine lv_iload hx hb dX6_readBack_58 (lv_at hl 0 rfl) ?_
  exact h_iret Z hS dX6_readBack_60 h
end
theorem dX6_back_0 : decode cX6_back 0 = .ok (.aload_n 0, 1) := by decide +kernel
theorem dX6_back_1 : decode cX6_back 1 = .ok (.iload_n 1, 1) := by decide +kernel
theorem dX6_back_2 : decode cX6_back 2 = .ok (.iload_n 2, 1) := by decide +kernel
theorem dX6_back_3 : decode cX6_back 3 = .ok (.iload_n 3, 1) := by decide +kernel
theorem dX6_back_4 : decode cX6_back 4 = .ok (.invokevirtual 400, 3) := by decide +kernel
theorem dX6_back_7 : decode cX6_back 7 = .ok (.ifCond .eq 33, 3) := by decide +kernel
theorem dX6_back_10 : decode cX6_back 10 = .ok (.iload 4, 2) := by decide +kernel
theorem dX6_back_12 : decode cX6_back 12 = .ok (.iconst 0, 1) := by decide +kernel
theorem dX6_back_13 : decode cX6_back 13 = .ok (.iconst 1, 1) := by decide +kernel
theorem dX6_back_14 : decode cX6_back 14 = .ok (.invokestatic 161, 3) := by decide +kernel
theorem dX6_back_17 : decode cX6_back 17 = .ok (.ifCond .eq 23, 3) := by decide +kernel
theorem dX6_back_20 : decode cX6_back 20 = .ok (.aload_n 0, 1) := by decide +kernel
theorem dX6_back_21 : decode cX6_back 21 = .ok (.bipush 10, 2) := by decide +kernel
theorem dX6_back_23 : decode cX6_back 23 = .ok (.iload_n 1, 1) := by decide +kernel
theorem dX6_back_24 : decode cX6_back 24 = .ok (.imul, 1) := by decide +kernel
theorem dX6_back_25 : decode cX6_back 25 = .ok (.iload_n 2, 1) := by decide +kernel
theorem dX6_back_26 : decode cX6_back 26 = .ok (.iadd, 1) := by decide +kernel
theorem dX6_back_27 : decode cX6_back 27 = .ok (.iload_n 3, 1) := by decide +kernel
theorem dX6_back_28 : decode cX6_back 28 = .ok (.aload_n 0, 1) := by decide +kernel
theorem dX6_back_29 : decode cX6_back 29 = .ok (.getfield 393, 3) := by decide +kernel
theorem dX6_back_32 : decode cX6_back 32 = .ok (.iload 4, 2) := by decide +kernel
theorem dX6_back_34 : decode cX6_back 34 = .ok (.invokevirtual 403, 3) := by decide +kernel
theorem dX6_back_37 : decode cX6_back 37 = .ok (.goto 4, 3) := by decide +kernel
theorem dX6_back_40 : decode cX6_back 40 = .ok (.iconst (-1), 1) := by decide +kernel
theorem dX6_back_41 : decode cX6_back 41 = .ok (.ireturn, 1) := by decide +kernel
abbrev rm_X6_back : Room := k2_rm 4 88
section
variable {p : Program} {l : Launch} {e : Env} {s : State} {m : MethodId} {args : Array Value} {below : List Frame} {meth : Method} {c : Code} {D : gD} {A : Nat → Prop} {ad : Nat → Nat} {S : Nat → Nat × Nat} {σ : Mem}
set_option maxRecDepth 100000 in
set_option maxHeartbeats 4000000 in
theorem w_X6_back {a1 : Int32} {a2 : Int32} {a3 : Int32} {a4 : Int32} (hi0 : S 200 = (24, 0)) {r : Int32} (h : f_X6_back σ a1 a2 a3 a4 = some r) : Met l yX6_back (ws_ yX6_back cX6_back 5 (some .int)) rm_X6_back (va_Pc [.ref (ad 200), .int a1, .int a2, .int a3, .int a4] (PreG D (Ew D A) A ad S σ)) (QG D A ad S (some (.int r)) σ) 0 0 A := by
  refine y_met (by decide) (Nat.le_of_ble_eq_true rfl) (fun p e s m below meth c ls Z hS hl => ?_)
  have hx := Z.1
  have hb := Z.2.1
  have hown := Z.2.2.2.2.2.1
  have hts := Z.2.2.2.2.2.2.1
  unfold f_X6_back at h
  refine lv_aload_n hx hb dX6_back_0 rfl (lv_at hl 0 rfl) ?_
  refine lv_iload_n hx hb dX6_back_1 rfl (lv_at hl 1 rfl) ?_
  refine lv_iload_n hx hb dX6_back_2 rfl (lv_at hl 2 rfl) ?_
  refine lv_iload_n hx hb dX6_back_3 rfl (lv_at hl 3 rfl) ?_
  refine h_ci hS h (fun z hz => h_rV (rest := []) Z hS hi0 rfl v_X6_400 (w_X6_isAsked hi0 hz) rfl rfl ⟨by decide, by decide⟩ rfl hl.1 rfl (Nat.le_of_ble_eq_true rfl) (Nat.zero_le _) (Nat.zero_le _) dX6_back_4) (fun x1 H locs hS h => ?_)
  refine lv_if_eq (tgt := 40) hx hb dX6_back_7 (by decide) (fun c2 => ?_) (fun c2 => ?_)
  · have h := if_t h c2
    refine lv_iconst (v := (-1 : Int32)) hx hb dX6_back_40 (by decide) ?_
    exact h_iret Z hS dX6_back_41 h
  · have h := if_f h c2
    refine lv_iload hx hb dX6_back_10 (lv_at hl 4 rfl) ?_
    refine lv_iconst (v := (0 : Int32)) hx hb dX6_back_12 (by decide) ?_
    refine lv_iconst (v := (1 : Int32)) hx hb dX6_back_13 (by decide) ?_
    refine h_ci hS h (fun z hz => h_rS (rest := []) Z hS v_X6_161 (w_X6_in hz) rfl rfl ⟨by decide, by decide⟩ rfl hl.1 rfl (Nat.le_of_ble_eq_true rfl) (Nat.zero_le _) (Nat.zero_le _) dX6_back_14) (fun x3 H locs hS h => ?_)
    refine lv_if_eq (tgt := 40) hx hb dX6_back_17 (by decide) (fun c4 => ?_) (fun c4 => ?_)
    · have h := if_t h c4
      refine lv_iconst (v := (-1 : Int32)) hx hb dX6_back_40 (by decide) ?_
      exact h_iret Z hS dX6_back_41 h
    · have h := if_f h c4
      refine lv_aload_n hx hb dX6_back_20 rfl (lv_at hl 0 rfl) ?_
      refine lv_bipush (v := (10 : Int32)) hx hb dX6_back_21 (by decide) ?_
      refine lv_iload_n hx hb dX6_back_23 rfl (lv_at hl 1 rfl) ?_
      refine lv_imul hx hb dX6_back_24 ?_
      refine lv_iload_n hx hb dX6_back_25 rfl (lv_at hl 2 rfl) ?_
      refine lv_iadd hx hb dX6_back_26 ?_
      refine lv_iload_n hx hb dX6_back_27 rfl (lv_at hl 3 rfl) ?_
      refine lv_aload_n hx hb dX6_back_28 rfl (lv_at hl 0 rfl) ?_
      refine h_getI Z hS cls_14 hi0 (by decide) rfl fl_X6_393_14 dX6_back_29 h (fun x5 h => ?_)
      refine lv_iload hx hb dX6_back_32 (lv_at hl 4 rfl) ?_
      refine h_ci hS h (fun z hz => h_rV (rest := []) Z hS hi0 rfl v_X6_403 (w_X6_readBack hi0 hz) rfl rfl ⟨by decide, by decide⟩ rfl hl.1 rfl (Nat.le_of_ble_eq_true rfl) (Nat.zero_le _) (Nat.zero_le _) dX6_back_34) (fun x6 H locs hS h => ?_)
      refine lv_goto (tgt := 41) hx hb dX6_back_37 (by decide) ?_
      exact h_iret Z hS dX6_back_41 h
end
theorem dX6_barred_0 : decode cX6_barred 0 = .ok (.aload_n 0, 1) := by decide +kernel
theorem dX6_barred_1 : decode cX6_barred 1 = .ok (.iload_n 1, 1) := by decide +kernel
theorem dX6_barred_2 : decode cX6_barred 2 = .ok (.iload_n 2, 1) := by decide +kernel
theorem dX6_barred_3 : decode cX6_barred 3 = .ok (.iload_n 3, 1) := by decide +kernel
theorem dX6_barred_4 : decode cX6_barred 4 = .ok (.invokevirtual 400, 3) := by decide +kernel
theorem dX6_barred_7 : decode cX6_barred 7 = .ok (.ifCond .ne 5, 3) := by decide +kernel
theorem dX6_barred_10 : decode cX6_barred 10 = .ok (.iconst (-1), 1) := by decide +kernel
theorem dX6_barred_11 : decode cX6_barred 11 = .ok (.ireturn, 1) := by decide +kernel
theorem dX6_barred_12 : decode cX6_barred 12 = .ok (.iconst 0, 1) := by decide +kernel
theorem dX6_barred_13 : decode cX6_barred 13 = .ok (.istore 4, 2) := by decide +kernel
theorem dX6_barred_15 : decode cX6_barred 15 = .ok (.iload 4, 2) := by decide +kernel
theorem dX6_barred_17 : decode cX6_barred 17 = .ok (.aload_n 0, 1) := by decide +kernel
theorem dX6_barred_18 : decode cX6_barred 18 = .ok (.getfield 393, 3) := by decide +kernel
theorem dX6_barred_21 : decode cX6_barred 21 = .ok (.if_icmp .ge 59, 3) := by decide +kernel
theorem dX6_barred_24 : decode cX6_barred 24 = .ok (.aload_n 0, 1) := by decide +kernel
theorem dX6_barred_25 : decode cX6_barred 25 = .ok (.getfield 145, 3) := by decide +kernel
theorem dX6_barred_28 : decode cX6_barred 28 = .ok (.iload 4, 2) := by decide +kernel
theorem dX6_barred_30 : decode cX6_barred 30 = .ok (.iaload, 1) := by decide +kernel
theorem dX6_barred_31 : decode cX6_barred 31 = .ok (.bipush 10, 2) := by decide +kernel
theorem dX6_barred_33 : decode cX6_barred 33 = .ok (.iload_n 1, 1) := by decide +kernel
theorem dX6_barred_34 : decode cX6_barred 34 = .ok (.imul, 1) := by decide +kernel
theorem dX6_barred_35 : decode cX6_barred 35 = .ok (.iload_n 2, 1) := by decide +kernel
theorem dX6_barred_36 : decode cX6_barred 36 = .ok (.iadd, 1) := by decide +kernel
theorem dX6_barred_37 : decode cX6_barred 37 = .ok (.if_icmp .ne 37, 3) := by decide +kernel
theorem dX6_barred_40 : decode cX6_barred 40 = .ok (.aload_n 0, 1) := by decide +kernel
theorem dX6_barred_41 : decode cX6_barred 41 = .ok (.getfield 154, 3) := by decide +kernel
theorem dX6_barred_44 : decode cX6_barred 44 = .ok (.iload 4, 2) := by decide +kernel
theorem dX6_barred_46 : decode cX6_barred 46 = .ok (.iaload, 1) := by decide +kernel
theorem dX6_barred_47 : decode cX6_barred 47 = .ok (.iload_n 3, 1) := by decide +kernel
theorem dX6_barred_48 : decode cX6_barred 48 = .ok (.if_icmp .gt 26, 3) := by decide +kernel
theorem dX6_barred_51 : decode cX6_barred 51 = .ok (.aload_n 0, 1) := by decide +kernel
theorem dX6_barred_52 : decode cX6_barred 52 = .ok (.bipush 10, 2) := by decide +kernel
theorem dX6_barred_54 : decode cX6_barred 54 = .ok (.iload_n 1, 1) := by decide +kernel
theorem dX6_barred_55 : decode cX6_barred 55 = .ok (.imul, 1) := by decide +kernel
theorem dX6_barred_56 : decode cX6_barred 56 = .ok (.iload_n 2, 1) := by decide +kernel
theorem dX6_barred_57 : decode cX6_barred 57 = .ok (.iadd, 1) := by decide +kernel
theorem dX6_barred_58 : decode cX6_barred 58 = .ok (.iload_n 3, 1) := by decide +kernel
theorem dX6_barred_59 : decode cX6_barred 59 = .ok (.iload 4, 2) := by decide +kernel
theorem dX6_barred_61 : decode cX6_barred 61 = .ok (.iconst 1, 1) := by decide +kernel
theorem dX6_barred_62 : decode cX6_barred 62 = .ok (.iadd, 1) := by decide +kernel
theorem dX6_barred_63 : decode cX6_barred 63 = .ok (.iconst 0, 1) := by decide +kernel
theorem dX6_barred_64 : decode cX6_barred 64 = .ok (.invokevirtual 403, 3) := by decide +kernel
theorem dX6_barred_67 : decode cX6_barred 67 = .ok (.iconst (-1), 1) := by decide +kernel
theorem dX6_barred_68 : decode cX6_barred 68 = .ok (.if_icmp .ne 6, 3) := by decide +kernel
theorem dX6_barred_71 : decode cX6_barred 71 = .ok (.iload 4, 2) := by decide +kernel
theorem dX6_barred_73 : decode cX6_barred 73 = .ok (.ireturn, 1) := by decide +kernel
theorem dX6_barred_74 : decode cX6_barred 74 = .ok (.iinc 4 1, 3) := by decide +kernel
theorem dX6_barred_77 : decode cX6_barred 77 = .ok (.goto (-62), 3) := by decide +kernel
theorem dX6_barred_80 : decode cX6_barred 80 = .ok (.iconst (-1), 1) := by decide +kernel
theorem dX6_barred_81 : decode cX6_barred 81 = .ok (.ireturn, 1) := by decide +kernel
abbrev rm_X6_barred : Room := k2_rm 4 88
section
variable {p : Program} {l : Launch} {e : Env} {s : State} {m : MethodId} {args : Array Value} {below : List Frame} {meth : Method} {c : Code} {D : gD} {A : Nat → Prop} {ad : Nat → Nat} {S : Nat → Nat × Nat} {σ : Mem}
set_option maxRecDepth 100000 in
set_option maxHeartbeats 4000000 in
theorem w_X6_barred_L15 (Z : Cz D (Ew D A) A cX6_barred 5 (some .int) RX6 p s m args meth c) {u1 : Int32} {u2 : Int32} {u3 : Int32} (hu0 : S 200 = (24, 0)) {r : Int32} {k71 : Int32 → Option Int32} {k80 : Option Int32}
    (hk71 : ∀ (w4 : Int32) (H : Heap) (locs : List Loc) (ls : Array Slot), St D A ad S σ s.heap H locs → lv_has ls 5 [(4, .int w4)] → k71 w4 = some r → W p l e rm_X6_barred s m args below meth c H locs 0 0 (MQ below (QG D A ad S (some (.int r)) σ) args s 0 0 A) (F0 m 71 ls []))
    (hk80 : ∀  (H : Heap) (locs : List Loc) (ls : Array Slot), St D A ad S σ s.heap H locs → lv_has ls 5 [] → k80 = some r → W p l e rm_X6_barred s m args below meth c H locs 0 0 (MQ below (QG D A ad S (some (.int r)) σ) args s 0 0 A) (F0 m 80 ls [])) :
    ∀ (n : Nat) (v4 : Int32) (H : Heap) (locs : List Loc) (ls : Array Slot), St D A ad S σ s.heap H locs → lv_has ls 5 [(0, .ref (ad 200)), (1, .int u1), (2, .int u2), (3, .int u3), (4, .int v4)] → f_X6_barred_L15 k71 k80 σ u1 u2 u3 n v4 = some r → W p l e rm_X6_barred s m args below meth c H locs 0 0 (MQ below (QG D A ad S (some (.int r)) σ) args s 0 0 A) (F0 m 15 ls []) := by
  have hx := Z.1
  have hb := Z.2.1
  have hown := Z.2.2.2.2.2.1
  have hts := Z.2.2.2.2.2.2.1
  intro n
  induction n with
  | zero => intro v4 H locs ls hS hl h; cases h
  | succ n ih =>
    intro v4 H locs ls hS hl h
    unfold f_X6_barred_L15 at h
    refine lv_iload hx hb dX6_barred_15 (lv_at hl 4 rfl) ?_
    refine lv_aload_n hx hb dX6_barred_17 rfl (lv_at hl 0 rfl) ?_
    refine h_getI Z hS cls_14 hu0 (by decide) rfl fl_X6_393_14 dX6_barred_18 h (fun x3 h => ?_)
    refine lv_icmp_ge (tgt := 80) hx hb dX6_barred_21 (by decide) (fun c4 => ?_) (fun c4 => ?_)
    · have h := if_t h c4
      exact hk80  _ _ _ hS (lv_sub hl [] rfl) h
    · have h := if_f h c4
      refine lv_aload_n hx hb dX6_barred_24 rfl (lv_at hl 0 rfl) ?_
      refine h_getC (n := 59) (j := 259) (sh := (1, 100)) Z hS cls_14 hu0 (by decide) rfl rfl rfl fl_X6_145_14 dX6_barred_25 (fun hc5 => ?_)
      refine lv_iload hx hb dX6_barred_28 (lv_at hl 4 rfl) ?_
      refine h_iald Z hS hc5 dX6_barred_30 h (fun x6 h => ?_)
      refine lv_bipush (v := (10 : Int32)) hx hb dX6_barred_31 (by decide) ?_
      refine lv_iload_n hx hb dX6_barred_33 rfl (lv_at hl 1 rfl) ?_
      refine lv_imul hx hb dX6_barred_34 ?_
      refine lv_iload_n hx hb dX6_barred_35 rfl (lv_at hl 2 rfl) ?_
      refine lv_iadd hx hb dX6_barred_36 ?_
      refine lv_icmp_ne (tgt := 74) hx hb dX6_barred_37 (by decide) (fun c7 => ?_) (fun c7 => ?_)
      · have h := if_f h c7
        refine lv_iinc (v := (v4 + (1 : Int32))) (lv' := [(4, .int (v4 + (1 : Int32))), (0, .ref (ad 200)), (1, .int u1), (2, .int u2), (3, .int u3)]) hx hb dX6_barred_74 hl (k := 4) rfl rfl (by decide) rfl (fun ls hl => ?_)
        refine lv_goto (tgt := 15) hx hb dX6_barred_77 (by decide) ?_
        exact ih _ _ _ _ hS (lv_sub hl [1, 2, 3, 4, 0] rfl) h
      · have h := if_t h c7
        refine lv_aload_n hx hb dX6_barred_40 rfl (lv_at hl 0 rfl) ?_
        refine h_getC (n := 62) (j := 262) (sh := (1, 100)) Z hS cls_14 hu0 (by decide) rfl rfl rfl fl_X6_154_14 dX6_barred_41 (fun hc8 => ?_)
        refine lv_iload hx hb dX6_barred_44 (lv_at hl 4 rfl) ?_
        refine h_iald Z hS hc8 dX6_barred_46 h (fun x9 h => ?_)
        refine lv_iload_n hx hb dX6_barred_47 rfl (lv_at hl 3 rfl) ?_
        refine lv_icmp_gt (tgt := 74) hx hb dX6_barred_48 (by decide) (fun c10 => ?_) (fun c10 => ?_)
        · have h := if_t h c10
          refine lv_iinc (v := (v4 + (1 : Int32))) (lv' := [(4, .int (v4 + (1 : Int32))), (0, .ref (ad 200)), (1, .int u1), (2, .int u2), (3, .int u3)]) hx hb dX6_barred_74 hl (k := 4) rfl rfl (by decide) rfl (fun ls hl => ?_)
          refine lv_goto (tgt := 15) hx hb dX6_barred_77 (by decide) ?_
          exact ih _ _ _ _ hS (lv_sub hl [1, 2, 3, 4, 0] rfl) h
        · have h := if_f h c10
          refine lv_aload_n hx hb dX6_barred_51 rfl (lv_at hl 0 rfl) ?_
          refine lv_bipush (v := (10 : Int32)) hx hb dX6_barred_52 (by decide) ?_
          refine lv_iload_n hx hb dX6_barred_54 rfl (lv_at hl 1 rfl) ?_
          refine lv_imul hx hb dX6_barred_55 ?_
          refine lv_iload_n hx hb dX6_barred_56 rfl (lv_at hl 2 rfl) ?_
          refine lv_iadd hx hb dX6_barred_57 ?_
          refine lv_iload_n hx hb dX6_barred_58 rfl (lv_at hl 3 rfl) ?_
          refine lv_iload hx hb dX6_barred_59 (lv_at hl 4 rfl) ?_
          refine lv_iconst (v := (1 : Int32)) hx hb dX6_barred_61 (by decide) ?_
          refine lv_iadd hx hb dX6_barred_62 ?_
          refine lv_iconst (v := (0 : Int32)) hx hb dX6_barred_63 (by decide) ?_
          refine h_ci hS h (fun z hz => h_rV (rest := []) Z hS hu0 rfl v_X6_403 (w_X6_readBack hu0 hz) rfl rfl ⟨by decide, by decide⟩ rfl hl.1 rfl (Nat.le_of_ble_eq_true rfl) (Nat.zero_le _) (Nat.zero_le _) dX6_barred_64) (fun x11 H locs hS h => ?_)
          refine lv_iconst (v := (-1 : Int32)) hx hb dX6_barred_67 (by decide) ?_
          refine lv_icmp_ne (tgt := 74) hx hb dX6_barred_68 (by decide) (fun c12 => ?_) (fun c12 => ?_)
          · have h := if_f h c12
            refine lv_iinc (v := (v4 + (1 : Int32))) (lv' := [(4, .int (v4 + (1 : Int32))), (0, .ref (ad 200)), (1, .int u1), (2, .int u2), (3, .int u3)]) hx hb dX6_barred_74 hl (k := 4) rfl rfl (by decide) rfl (fun ls hl => ?_)
            refine lv_goto (tgt := 15) hx hb dX6_barred_77 (by decide) ?_
            exact ih _ _ _ _ hS (lv_sub hl [1, 2, 3, 4, 0] rfl) h
          · have h := if_t h c12
            exact hk71 _ _ _ _ hS (lv_sub hl [4] rfl) h
set_option maxRecDepth 100000 in
set_option maxHeartbeats 4000000 in
theorem w_X6_barred {a1 : Int32} {a2 : Int32} {a3 : Int32} (hi0 : S 200 = (24, 0)) {r : Int32} (h : f_X6_barred σ a1 a2 a3 = some r) : Met l yX6_barred (ws_ yX6_barred cX6_barred 5 (some .int)) rm_X6_barred (va_Pc [.ref (ad 200), .int a1, .int a2, .int a3] (PreG D (Ew D A) A ad S σ)) (QG D A ad S (some (.int r)) σ) 0 0 A := by
  refine y_met (by decide) (Nat.le_of_ble_eq_true rfl) (fun p e s m below meth c ls Z hS hl => ?_)
  have hx := Z.1
  have hb := Z.2.1
  have hown := Z.2.2.2.2.2.1
  have hts := Z.2.2.2.2.2.2.1
  unfold f_X6_barred at h
  refine lv_aload_n hx hb dX6_barred_0 rfl (lv_at hl 0 rfl) ?_
  refine lv_iload_n hx hb dX6_barred_1 rfl (lv_at hl 1 rfl) ?_
  refine lv_iload_n hx hb dX6_barred_2 rfl (lv_at hl 2 rfl) ?_
  refine lv_iload_n hx hb dX6_barred_3 rfl (lv_at hl 3 rfl) ?_
  refine h_ci hS h (fun z hz => h_rV (rest := []) Z hS hi0 rfl v_X6_400 (w_X6_isAsked hi0 hz) rfl rfl ⟨by decide, by decide⟩ rfl hl.1 rfl (Nat.le_of_ble_eq_true rfl) (Nat.zero_le _) (Nat.zero_le _) dX6_barred_4) (fun x1 H locs hS h => ?_)
  refine lv_if_ne (tgt := 12) hx hb dX6_barred_7 (by decide) (fun c2 => ?_) (fun c2 => ?_)
  · have h := if_f h c2
    refine lv_iconst (v := (0 : Int32)) hx hb dX6_barred_12 (by decide) ?_
    refine lv_istore (lv' := [(4, .int (0 : Int32)), (0, .ref (ad 200)), (1, .int a1), (2, .int a2), (3, .int a3)]) hx hb dX6_barred_13 hl (by decide) rfl (fun ls hl => ?_)
    refine w_X6_barred_L15 Z hi0 (fun x13 H locs ls hS hl h => ?_) (fun  H locs ls hS hl h => ?_) FU _ _ _ _ hS (lv_sub hl [1, 2, 3, 4, 0] rfl) h
    · refine lv_iload hx hb dX6_barred_71 (lv_at hl 0 rfl) ?_
      exact h_iret Z hS dX6_barred_73 h
    · refine lv_iconst (v := (-1 : Int32)) hx hb dX6_barred_80 (by decide) ?_
      exact h_iret Z hS dX6_barred_81 h
  · have h := if_t h c2
    refine lv_iconst (v := (-1 : Int32)) hx hb dX6_barred_10 (by decide) ?_
    exact h_iret Z hS dX6_barred_11 h
end
theorem dX6_count_0 : decode cX6_count 0 = .ok (.iconst 0, 1) := by decide +kernel
theorem dX6_count_1 : decode cX6_count 1 = .ok (.istore_n 2, 1) := by decide +kernel
theorem dX6_count_2 : decode cX6_count 2 = .ok (.iconst 0, 1) := by decide +kernel
theorem dX6_count_3 : decode cX6_count 3 = .ok (.istore_n 3, 1) := by decide +kernel
theorem dX6_count_4 : decode cX6_count 4 = .ok (.iconst 0, 1) := by decide +kernel
theorem dX6_count_5 : decode cX6_count 5 = .ok (.istore 4, 2) := by decide +kernel
theorem dX6_count_7 : decode cX6_count 7 = .ok (.iconst 0, 1) := by decide +kernel
theorem dX6_count_8 : decode cX6_count 8 = .ok (.istore 5, 2) := by decide +kernel
theorem dX6_count_10 : decode cX6_count 10 = .ok (.iload 5, 2) := by decide +kernel
theorem dX6_count_12 : decode cX6_count 12 = .ok (.aload_n 0, 1) := by decide +kernel
theorem dX6_count_13 : decode cX6_count 13 = .ok (.getfield 165, 3) := by decide +kernel
theorem dX6_count_16 : decode cX6_count 16 = .ok (.if_icmp .ge 67, 3) := by decide +kernel
theorem dX6_count_19 : decode cX6_count 19 = .ok (.iload_n 2, 1) := by decide +kernel
theorem dX6_count_20 : decode cX6_count 20 = .ok (.aload_n 0, 1) := by decide +kernel
theorem dX6_count_21 : decode cX6_count 21 = .ok (.getfield 70, 3) := by decide +kernel
theorem dX6_count_24 : decode cX6_count 24 = .ok (.iload 5, 2) := by decide +kernel
theorem dX6_count_26 : decode cX6_count 26 = .ok (.baload, 1) := by decide +kernel
theorem dX6_count_27 : decode cX6_count 27 = .ok (.ifCond .eq 7, 3) := by decide +kernel
theorem dX6_count_30 : decode cX6_count 30 = .ok (.iconst 1, 1) := by decide +kernel
theorem dX6_count_31 : decode cX6_count 31 = .ok (.goto 4, 3) := by decide +kernel
theorem dX6_count_34 : decode cX6_count 34 = .ok (.iconst 0, 1) := by decide +kernel
theorem dX6_count_35 : decode cX6_count 35 = .ok (.iadd, 1) := by decide +kernel
theorem dX6_count_36 : decode cX6_count 36 = .ok (.istore_n 2, 1) := by decide +kernel
theorem dX6_count_37 : decode cX6_count 37 = .ok (.iload_n 3, 1) := by decide +kernel
theorem dX6_count_38 : decode cX6_count 38 = .ok (.aload_n 0, 1) := by decide +kernel
theorem dX6_count_39 : decode cX6_count 39 = .ok (.getfield 49, 3) := by decide +kernel
theorem dX6_count_42 : decode cX6_count 42 = .ok (.iload 5, 2) := by decide +kernel
theorem dX6_count_44 : decode cX6_count 44 = .ok (.iaload, 1) := by decide +kernel
theorem dX6_count_45 : decode cX6_count 45 = .ok (.iconst 4, 1) := by decide +kernel
theorem dX6_count_46 : decode cX6_count 46 = .ok (.if_icmp .ne 7, 3) := by decide +kernel
theorem dX6_count_49 : decode cX6_count 49 = .ok (.iconst 1, 1) := by decide +kernel
theorem dX6_count_50 : decode cX6_count 50 = .ok (.goto 4, 3) := by decide +kernel
theorem dX6_count_53 : decode cX6_count 53 = .ok (.iconst 0, 1) := by decide +kernel
theorem dX6_count_54 : decode cX6_count 54 = .ok (.iadd, 1) := by decide +kernel
theorem dX6_count_55 : decode cX6_count 55 = .ok (.istore_n 3, 1) := by decide +kernel
theorem dX6_count_56 : decode cX6_count 56 = .ok (.iload 4, 2) := by decide +kernel
theorem dX6_count_58 : decode cX6_count 58 = .ok (.aload_n 0, 1) := by decide +kernel
theorem dX6_count_59 : decode cX6_count 59 = .ok (.getfield 49, 3) := by decide +kernel
theorem dX6_count_62 : decode cX6_count 62 = .ok (.iload 5, 2) := by decide +kernel
theorem dX6_count_64 : decode cX6_count 64 = .ok (.iaload, 1) := by decide +kernel
theorem dX6_count_65 : decode cX6_count 65 = .ok (.iconst 5, 1) := by decide +kernel
theorem dX6_count_66 : decode cX6_count 66 = .ok (.if_icmp .ne 7, 3) := by decide +kernel
theorem dX6_count_69 : decode cX6_count 69 = .ok (.iconst 1, 1) := by decide +kernel
theorem dX6_count_70 : decode cX6_count 70 = .ok (.goto 4, 3) := by decide +kernel
theorem dX6_count_73 : decode cX6_count 73 = .ok (.iconst 0, 1) := by decide +kernel
theorem dX6_count_74 : decode cX6_count 74 = .ok (.iadd, 1) := by decide +kernel
theorem dX6_count_75 : decode cX6_count 75 = .ok (.istore 4, 2) := by decide +kernel
theorem dX6_count_77 : decode cX6_count 77 = .ok (.iinc 5 1, 3) := by decide +kernel
theorem dX6_count_80 : decode cX6_count 80 = .ok (.goto (-70), 3) := by decide +kernel
theorem dX6_count_83 : decode cX6_count 83 = .ok (.iload_n 1, 1) := by decide +kernel
theorem dX6_count_84 : decode cX6_count 84 = .ok (.tableswitch 98 0 9 #[56, 61, 66, 68, 70, 73, 78, 83, 88, 93], 56) := by decide +kernel
theorem dX6_count_140 : decode cX6_count 140 = .ok (.aload_n 0, 1) := by decide +kernel
theorem dX6_count_141 : decode cX6_count 141 = .ok (.getfield 330, 3) := by decide +kernel
theorem dX6_count_144 : decode cX6_count 144 = .ok (.ireturn, 1) := by decide +kernel
theorem dX6_count_145 : decode cX6_count 145 = .ok (.aload_n 0, 1) := by decide +kernel
theorem dX6_count_146 : decode cX6_count 146 = .ok (.getfield 165, 3) := by decide +kernel
theorem dX6_count_149 : decode cX6_count 149 = .ok (.ireturn, 1) := by decide +kernel
theorem dX6_count_150 : decode cX6_count 150 = .ok (.iload_n 2, 1) := by decide +kernel
theorem dX6_count_151 : decode cX6_count 151 = .ok (.ireturn, 1) := by decide +kernel
theorem dX6_count_152 : decode cX6_count 152 = .ok (.iload_n 3, 1) := by decide +kernel
theorem dX6_count_153 : decode cX6_count 153 = .ok (.ireturn, 1) := by decide +kernel
theorem dX6_count_154 : decode cX6_count 154 = .ok (.iload 4, 2) := by decide +kernel
theorem dX6_count_156 : decode cX6_count 156 = .ok (.ireturn, 1) := by decide +kernel
theorem dX6_count_157 : decode cX6_count 157 = .ok (.aload_n 0, 1) := by decide +kernel
theorem dX6_count_158 : decode cX6_count 158 = .ok (.getfield 290, 3) := by decide +kernel
theorem dX6_count_161 : decode cX6_count 161 = .ok (.ireturn, 1) := by decide +kernel
theorem dX6_count_162 : decode cX6_count 162 = .ok (.aload_n 0, 1) := by decide +kernel
theorem dX6_count_163 : decode cX6_count 163 = .ok (.getfield 375, 3) := by decide +kernel
theorem dX6_count_166 : decode cX6_count 166 = .ok (.ireturn, 1) := by decide +kernel
theorem dX6_count_167 : decode cX6_count 167 = .ok (.aload_n 0, 1) := by decide +kernel
theorem dX6_count_168 : decode cX6_count 168 = .ok (.getfield 393, 3) := by decide +kernel
theorem dX6_count_171 : decode cX6_count 171 = .ok (.ireturn, 1) := by decide +kernel
theorem dX6_count_172 : decode cX6_count 172 = .ok (.aload_n 0, 1) := by decide +kernel
theorem dX6_count_173 : decode cX6_count 173 = .ok (.getfield 217, 3) := by decide +kernel
theorem dX6_count_176 : decode cX6_count 176 = .ok (.ireturn, 1) := by decide +kernel
theorem dX6_count_177 : decode cX6_count 177 = .ok (.aload_n 0, 1) := by decide +kernel
theorem dX6_count_178 : decode cX6_count 178 = .ok (.getfield 319, 3) := by decide +kernel
theorem dX6_count_181 : decode cX6_count 181 = .ok (.ireturn, 1) := by decide +kernel
theorem dX6_count_182 : decode cX6_count 182 = .ok (.iconst (-1), 1) := by decide +kernel
theorem dX6_count_183 : decode cX6_count 183 = .ok (.ireturn, 1) := by decide +kernel
abbrev rm_X6_count : Room := k2_rm 0 0
section
variable {p : Program} {l : Launch} {e : Env} {s : State} {m : MethodId} {args : Array Value} {below : List Frame} {meth : Method} {c : Code} {D : gD} {A : Nat → Prop} {ad : Nat → Nat} {S : Nat → Nat × Nat} {σ : Mem}
set_option maxRecDepth 100000 in
set_option maxHeartbeats 4000000 in
theorem w_X6_count_L10 (Z : Cz D (Ew D A) A cX6_count 6 (some .int) RX6 p s m args meth c) {u1 : Int32} (hu0 : S 200 = (24, 0)) {r : Int32} {k83 : Int32 → Int32 → Int32 → Option Int32}
    (hk83 : ∀ (w2 : Int32) (w3 : Int32) (w4 : Int32) (H : Heap) (locs : List Loc) (ls : Array Slot), St D A ad S σ s.heap H locs → lv_has ls 6 [(0, .ref (ad 200)), (1, .int u1), (2, .int w2), (3, .int w3), (4, .int w4)] → k83 w2 w3 w4 = some r → W p l e rm_X6_count s m args below meth c H locs 0 0 (MQ below (QG D A ad S (some (.int r)) σ) args s 0 0 A) (F0 m 83 ls [])) :
    ∀ (n : Nat) (v2 : Int32) (v3 : Int32) (v4 : Int32) (v5 : Int32) (H : Heap) (locs : List Loc) (ls : Array Slot), St D A ad S σ s.heap H locs → lv_has ls 6 [(0, .ref (ad 200)), (1, .int u1), (2, .int v2), (3, .int v3), (4, .int v4), (5, .int v5)] → f_X6_count_L10 k83 σ u1 n v2 v3 v4 v5 = some r → W p l e rm_X6_count s m args below meth c H locs 0 0 (MQ below (QG D A ad S (some (.int r)) σ) args s 0 0 A) (F0 m 10 ls []) := by
  have hx := Z.1
  have hb := Z.2.1
  have hown := Z.2.2.2.2.2.1
  have hts := Z.2.2.2.2.2.2.1
  intro n
  induction n with
  | zero => intro v2 v3 v4 v5 H locs ls hS hl h; cases h
  | succ n ih =>
    intro v2 v3 v4 v5 H locs ls hS hl h
    unfold f_X6_count_L10 at h
    refine lv_iload hx hb dX6_count_10 (lv_at hl 5 rfl) ?_
    refine lv_aload_n hx hb dX6_count_12 rfl (lv_at hl 0 rfl) ?_
    refine h_getI Z hS cls_14 hu0 (by decide) rfl fl_X6_165_14 dX6_count_13 h (fun x1 h => ?_)
    refine lv_icmp_ge (tgt := 83) hx hb dX6_count_16 (by decide) (fun c2 => ?_) (fun c2 => ?_)
    · have h := if_t h c2
      exact hk83 _ _ _ _ _ _ hS (lv_sub hl [0, 1, 2, 3, 4] rfl) h
    · have h := if_f h c2
      refine lv_iload_n hx hb dX6_count_19 rfl (lv_at hl 2 rfl) ?_
      refine lv_aload_n hx hb dX6_count_20 rfl (lv_at hl 0 rfl) ?_
      refine h_getC (n := 23) (j := 223) (sh := (3, 9)) Z hS cls_14 hu0 (by decide) rfl rfl rfl fl_X6_70_14 dX6_count_21 (fun hc3 => ?_)
      refine lv_iload hx hb dX6_count_24 (lv_at hl 5 rfl) ?_
      refine h_zald Z hS hc3 dX6_count_26 h (fun x4 h => ?_)
      obtain ⟨x6, hp7, h⟩ := bnd_el h
      have K7 : ∀ (H : Heap) (locs : List Loc) (ls : Array Slot), St D A ad S σ s.heap H locs → lv_has ls 6 [(0, .ref (ad 200)), (1, .int u1), (3, .int v3), (4, .int v4), (5, .int v5)] → W p l e rm_X6_count s m args below meth c H locs 0 0 (MQ below (QG D A ad S (some (.int r)) σ) args s 0 0 A) (F0 m 35 ls [.int x6, .int v2]) := by
        intro H locs ls hS hl
        refine lv_iadd hx hb dX6_count_35 ?_
        refine h_leti h (fun x8 h => ?_)
        refine lv_istore_n (lv' := [(2, .int x8), (0, .ref (ad 200)), (1, .int u1), (3, .int v3), (4, .int v4), (5, .int v5)]) hx hb dX6_count_36 rfl hl (by decide) rfl (fun ls hl => ?_)
        refine lv_iload_n hx hb dX6_count_37 rfl (lv_at hl 3 rfl) ?_
        refine lv_aload_n hx hb dX6_count_38 rfl (lv_at hl 1 rfl) ?_
        refine h_getC (n := 16) (j := 216) (sh := (1, 9)) Z hS cls_14 hu0 (by decide) rfl rfl rfl fl_X6_49_14 dX6_count_39 (fun hc9 => ?_)
        refine lv_iload hx hb dX6_count_42 (lv_at hl 5 rfl) ?_
        refine h_iald Z hS hc9 dX6_count_44 h (fun x10 h => ?_)
        refine lv_iconst (v := (4 : Int32)) hx hb dX6_count_45 (by decide) ?_
        obtain ⟨x12, hp13, h⟩ := bnd_el h
        have K13 : ∀ (H : Heap) (locs : List Loc) (ls : Array Slot), St D A ad S σ s.heap H locs → lv_has ls 6 [(0, .ref (ad 200)), (1, .int u1), (2, .int x8), (4, .int v4), (5, .int v5)] → W p l e rm_X6_count s m args below meth c H locs 0 0 (MQ below (QG D A ad S (some (.int r)) σ) args s 0 0 A) (F0 m 54 ls [.int x12, .int v3]) := by
          intro H locs ls hS hl
          refine lv_iadd hx hb dX6_count_54 ?_
          refine h_leti h (fun x14 h => ?_)
          refine lv_istore_n (lv' := [(3, .int x14), (0, .ref (ad 200)), (1, .int u1), (2, .int x8), (4, .int v4), (5, .int v5)]) hx hb dX6_count_55 rfl hl (by decide) rfl (fun ls hl => ?_)
          refine lv_iload hx hb dX6_count_56 (lv_at hl 4 rfl) ?_
          refine lv_aload_n hx hb dX6_count_58 rfl (lv_at hl 1 rfl) ?_
          refine h_getC (n := 16) (j := 216) (sh := (1, 9)) Z hS cls_14 hu0 (by decide) rfl rfl rfl fl_X6_49_14 dX6_count_59 (fun hc15 => ?_)
          refine lv_iload hx hb dX6_count_62 (lv_at hl 5 rfl) ?_
          refine h_iald Z hS hc15 dX6_count_64 h (fun x16 h => ?_)
          refine lv_iconst (v := (5 : Int32)) hx hb dX6_count_65 (by decide) ?_
          obtain ⟨x18, hp19, h⟩ := bnd_el h
          have K19 : ∀ (H : Heap) (locs : List Loc) (ls : Array Slot), St D A ad S σ s.heap H locs → lv_has ls 6 [(0, .ref (ad 200)), (1, .int u1), (2, .int x8), (3, .int x14), (5, .int v5)] → W p l e rm_X6_count s m args below meth c H locs 0 0 (MQ below (QG D A ad S (some (.int r)) σ) args s 0 0 A) (F0 m 74 ls [.int x18, .int v4]) := by
            intro H locs ls hS hl
            refine lv_iadd hx hb dX6_count_74 ?_
            refine h_leti h (fun x20 h => ?_)
            refine lv_istore (lv' := [(4, .int x20), (0, .ref (ad 200)), (1, .int u1), (2, .int x8), (3, .int x14), (5, .int v5)]) hx hb dX6_count_75 hl (by decide) rfl (fun ls hl => ?_)
            refine lv_iinc (v := (v5 + (1 : Int32))) (lv' := [(5, .int (v5 + (1 : Int32))), (4, .int x20), (0, .ref (ad 200)), (1, .int u1), (2, .int x8), (3, .int x14)]) hx hb dX6_count_77 hl (k := 5) rfl rfl (by decide) rfl (fun ls hl => ?_)
            refine lv_goto (tgt := 10) hx hb dX6_count_80 (by decide) ?_
            exact ih _ _ _ _ _ _ _ hS (lv_sub hl [2, 3, 4, 5, 1, 0] rfl) h
          clear h
          have h := hp19
          clear hp19
          refine lv_icmp_ne (tgt := 73) hx hb dX6_count_66 (by decide) (fun c17 => ?_) (fun c17 => ?_)
          · have h := if_f h c17
            refine lv_iconst (v := (0 : Int32)) hx hb dX6_count_73 (by decide) ?_
            cases h
            exact K19 _ _ _ hS (lv_sub hl [1, 2, 3, 0, 5] rfl)
          · have h := if_t h c17
            refine lv_iconst (v := (1 : Int32)) hx hb dX6_count_69 (by decide) ?_
            refine lv_goto (tgt := 74) hx hb dX6_count_70 (by decide) ?_
            cases h
            exact K19 _ _ _ hS (lv_sub hl [1, 2, 3, 0, 5] rfl)
        clear h
        have h := hp13
        clear hp13
        refine lv_icmp_ne (tgt := 53) hx hb dX6_count_46 (by decide) (fun c11 => ?_) (fun c11 => ?_)
        · have h := if_f h c11
          refine lv_iconst (v := (0 : Int32)) hx hb dX6_count_53 (by decide) ?_
          cases h
          exact K13 _ _ _ hS (lv_sub hl [1, 2, 0, 4, 5] rfl)
        · have h := if_t h c11
          refine lv_iconst (v := (1 : Int32)) hx hb dX6_count_49 (by decide) ?_
          refine lv_goto (tgt := 54) hx hb dX6_count_50 (by decide) ?_
          cases h
          exact K13 _ _ _ hS (lv_sub hl [1, 2, 0, 4, 5] rfl)
      clear h
      have h := hp7
      clear hp7
      refine lv_if_eq (tgt := 34) hx hb dX6_count_27 (by decide) (fun c5 => ?_) (fun c5 => ?_)
      · have h := if_t h c5
        refine lv_iconst (v := (0 : Int32)) hx hb dX6_count_34 (by decide) ?_
        cases h
        exact K7 _ _ _ hS (lv_sub hl [0, 1, 3, 4, 5] rfl)
      · have h := if_f h c5
        refine lv_iconst (v := (1 : Int32)) hx hb dX6_count_30 (by decide) ?_
        refine lv_goto (tgt := 35) hx hb dX6_count_31 (by decide) ?_
        cases h
        exact K7 _ _ _ hS (lv_sub hl [0, 1, 3, 4, 5] rfl)
set_option maxRecDepth 100000 in
set_option maxHeartbeats 4000000 in
theorem w_X6_count {a1 : Int32} (hi0 : S 200 = (24, 0)) {r : Int32} (h : f_X6_count σ a1 = some r) : Met l yX6_count (ws_ yX6_count cX6_count 6 (some .int)) rm_X6_count (va_Pc [.ref (ad 200), .int a1] (PreG D (Ew D A) A ad S σ)) (QG D A ad S (some (.int r)) σ) 0 0 A := by
  refine y_met (by decide) (Nat.le_of_ble_eq_true rfl) (fun p e s m below meth c ls Z hS hl => ?_)
  have hx := Z.1
  have hb := Z.2.1
  have hown := Z.2.2.2.2.2.1
  have hts := Z.2.2.2.2.2.2.1
  unfold f_X6_count at h
  refine lv_iconst (v := (0 : Int32)) hx hb dX6_count_0 (by decide) ?_
  refine lv_istore_n (lv' := [(2, .int (0 : Int32)), (0, .ref (ad 200)), (1, .int a1)]) hx hb dX6_count_1 rfl hl (by decide) rfl (fun ls hl => ?_)
  refine lv_iconst (v := (0 : Int32)) hx hb dX6_count_2 (by decide) ?_
  refine lv_istore_n (lv' := [(3, .int (0 : Int32)), (2, .int (0 : Int32)), (0, .ref (ad 200)), (1, .int a1)]) hx hb dX6_count_3 rfl hl (by decide) rfl (fun ls hl => ?_)
  refine lv_iconst (v := (0 : Int32)) hx hb dX6_count_4 (by decide) ?_
  refine lv_istore (lv' := [(4, .int (0 : Int32)), (3, .int (0 : Int32)), (2, .int (0 : Int32)), (0, .ref (ad 200)), (1, .int a1)]) hx hb dX6_count_5 hl (by decide) rfl (fun ls hl => ?_)
  refine lv_iconst (v := (0 : Int32)) hx hb dX6_count_7 (by decide) ?_
  refine lv_istore (lv' := [(5, .int (0 : Int32)), (4, .int (0 : Int32)), (3, .int (0 : Int32)), (2, .int (0 : Int32)), (0, .ref (ad 200)), (1, .int a1)]) hx hb dX6_count_8 hl (by decide) rfl (fun ls hl => ?_)
  refine w_X6_count_L10 Z hi0 (fun x21 x22 x23 H locs ls hS hl h => ?_) FU _ _ _ _ _ _ _ hS (lv_sub hl [4, 5, 3, 2, 1, 0] rfl) h
  refine lv_iload_n hx hb dX6_count_83 rfl (lv_at hl 1 rfl) ?_
  by_cases c24_0 : a1 = (0 : Int32)
  · refine h_tsw (k := (0 : Int32)) (off := 56) (tgt := 140) Z dX6_count_84 c24_0 (by decide) (by decide) rfl (by decide) ?_
    have h := if_t h c24_0
    refine lv_aload_n hx hb dX6_count_140 rfl (lv_at hl 0 rfl) ?_
    refine h_getI Z hS cls_14 hi0 (by decide) rfl fl_X6_330_14 dX6_count_141 h (fun x25 h => ?_)
    exact h_iret Z hS dX6_count_144 h
  replace h := if_f h c24_0
  by_cases c24_1 : a1 = (1 : Int32)
  · refine h_tsw (k := (1 : Int32)) (off := 61) (tgt := 145) Z dX6_count_84 c24_1 (by decide) (by decide) rfl (by decide) ?_
    have h := if_t h c24_1
    refine lv_aload_n hx hb dX6_count_145 rfl (lv_at hl 0 rfl) ?_
    refine h_getI Z hS cls_14 hi0 (by decide) rfl fl_X6_165_14 dX6_count_146 h (fun x26 h => ?_)
    exact h_iret Z hS dX6_count_149 h
  replace h := if_f h c24_1
  by_cases c24_2 : a1 = (2 : Int32)
  · refine h_tsw (k := (2 : Int32)) (off := 66) (tgt := 150) Z dX6_count_84 c24_2 (by decide) (by decide) rfl (by decide) ?_
    have h := if_t h c24_2
    refine lv_iload_n hx hb dX6_count_150 rfl (lv_at hl 2 rfl) ?_
    exact h_iret Z hS dX6_count_151 h
  replace h := if_f h c24_2
  by_cases c24_3 : a1 = (3 : Int32)
  · refine h_tsw (k := (3 : Int32)) (off := 68) (tgt := 152) Z dX6_count_84 c24_3 (by decide) (by decide) rfl (by decide) ?_
    have h := if_t h c24_3
    refine lv_iload_n hx hb dX6_count_152 rfl (lv_at hl 3 rfl) ?_
    exact h_iret Z hS dX6_count_153 h
  replace h := if_f h c24_3
  by_cases c24_4 : a1 = (4 : Int32)
  · refine h_tsw (k := (4 : Int32)) (off := 70) (tgt := 154) Z dX6_count_84 c24_4 (by decide) (by decide) rfl (by decide) ?_
    have h := if_t h c24_4
    refine lv_iload hx hb dX6_count_154 (lv_at hl 4 rfl) ?_
    exact h_iret Z hS dX6_count_156 h
  replace h := if_f h c24_4
  by_cases c24_5 : a1 = (5 : Int32)
  · refine h_tsw (k := (5 : Int32)) (off := 73) (tgt := 157) Z dX6_count_84 c24_5 (by decide) (by decide) rfl (by decide) ?_
    have h := if_t h c24_5
    refine lv_aload_n hx hb dX6_count_157 rfl (lv_at hl 0 rfl) ?_
    refine h_getI Z hS cls_14 hi0 (by decide) rfl fl_X6_290_14 dX6_count_158 h (fun x27 h => ?_)
    exact h_iret Z hS dX6_count_161 h
  replace h := if_f h c24_5
  by_cases c24_6 : a1 = (6 : Int32)
  · refine h_tsw (k := (6 : Int32)) (off := 78) (tgt := 162) Z dX6_count_84 c24_6 (by decide) (by decide) rfl (by decide) ?_
    have h := if_t h c24_6
    refine lv_aload_n hx hb dX6_count_162 rfl (lv_at hl 0 rfl) ?_
    refine h_getI Z hS cls_14 hi0 (by decide) rfl fl_X6_375_14 dX6_count_163 h (fun x28 h => ?_)
    exact h_iret Z hS dX6_count_166 h
  replace h := if_f h c24_6
  by_cases c24_7 : a1 = (7 : Int32)
  · refine h_tsw (k := (7 : Int32)) (off := 83) (tgt := 167) Z dX6_count_84 c24_7 (by decide) (by decide) rfl (by decide) ?_
    have h := if_t h c24_7
    refine lv_aload_n hx hb dX6_count_167 rfl (lv_at hl 0 rfl) ?_
    refine h_getI Z hS cls_14 hi0 (by decide) rfl fl_X6_393_14 dX6_count_168 h (fun x29 h => ?_)
    exact h_iret Z hS dX6_count_171 h
  replace h := if_f h c24_7
  by_cases c24_8 : a1 = (8 : Int32)
  · refine h_tsw (k := (8 : Int32)) (off := 88) (tgt := 172) Z dX6_count_84 c24_8 (by decide) (by decide) rfl (by decide) ?_
    have h := if_t h c24_8
    refine lv_aload_n hx hb dX6_count_172 rfl (lv_at hl 0 rfl) ?_
    refine h_getI Z hS cls_14 hi0 (by decide) rfl fl_X6_217_14 dX6_count_173 h (fun x30 h => ?_)
    exact h_iret Z hS dX6_count_176 h
  replace h := if_f h c24_8
  by_cases c24_9 : a1 = (9 : Int32)
  · refine h_tsw (k := (9 : Int32)) (off := 93) (tgt := 177) Z dX6_count_84 c24_9 (by decide) (by decide) rfl (by decide) ?_
    have h := if_t h c24_9
    refine lv_aload_n hx hb dX6_count_177 rfl (lv_at hl 0 rfl) ?_
    refine h_getI Z hS cls_14 hi0 (by decide) rfl fl_X6_319_14 dX6_count_178 h (fun x31 h => ?_)
    exact h_iret Z hS dX6_count_181 h
  replace h := if_f h c24_9
  refine h_tswd (n := 9) (tgt := 182) Z dX6_count_84 (by decide) (fun t ht => ?_) (by decide) ?_
  · rcases (show t = 0 ∨ t = 1 ∨ t = 2 ∨ t = 3 ∨ t = 4 ∨ t = 5 ∨ t = 6 ∨ t = 7 ∨ t = 8 ∨ t = 9 by omega) with rfl | rfl | rfl | rfl | rfl | rfl | rfl | rfl | rfl | rfl
    · exact Or.inr (ne_int c24_0 (by decide))
    · exact Or.inr (ne_int c24_1 (by decide))
    · exact Or.inr (ne_int c24_2 (by decide))
    · exact Or.inr (ne_int c24_3 (by decide))
    · exact Or.inr (ne_int c24_4 (by decide))
    · exact Or.inr (ne_int c24_5 (by decide))
    · exact Or.inr (ne_int c24_6 (by decide))
    · exact Or.inr (ne_int c24_7 (by decide))
    · exact Or.inr (ne_int c24_8 (by decide))
    · exact Or.inr (ne_int c24_9 (by decide))
  refine lv_iconst (v := (-1 : Int32)) hx hb dX6_count_182 (by decide) ?_
  exact h_iret Z hS dX6_count_183 h
end
theorem dX1_isIn_0 : decode cX1_isIn 0 = .ok (.lload_n 0, 1) := by decide +kernel
theorem dX1_isIn_1 : decode cX1_isIn 1 = .ok (.lload_n 2, 1) := by decide +kernel
theorem dX1_isIn_2 : decode cX1_isIn 2 = .ok (.lcmp, 1) := by decide +kernel
theorem dX1_isIn_3 : decode cX1_isIn 3 = .ok (.ifCond .lt 14, 3) := by decide +kernel
theorem dX1_isIn_6 : decode cX1_isIn 6 = .ok (.lload_n 0, 1) := by decide +kernel
theorem dX1_isIn_7 : decode cX1_isIn 7 = .ok (.lload 4, 2) := by decide +kernel
theorem dX1_isIn_9 : decode cX1_isIn 9 = .ok (.lcmp, 1) := by decide +kernel
theorem dX1_isIn_10 : decode cX1_isIn 10 = .ok (.ifCond .gt 7, 3) := by decide +kernel
theorem dX1_isIn_13 : decode cX1_isIn 13 = .ok (.iconst 1, 1) := by decide +kernel
theorem dX1_isIn_14 : decode cX1_isIn 14 = .ok (.goto 4, 3) := by decide +kernel
theorem dX1_isIn_17 : decode cX1_isIn 17 = .ok (.iconst 0, 1) := by decide +kernel
theorem dX1_isIn_18 : decode cX1_isIn 18 = .ok (.ireturn, 1) := by decide +kernel
abbrev rm_X1_isIn : Room := k2_rm 0 0
section
variable {p : Program} {l : Launch} {e : Env} {s : State} {m : MethodId} {args : Array Value} {below : List Frame} {meth : Method} {c : Code} {D : gD} {A : Nat → Prop} {ad : Nat → Nat} {S : Nat → Nat × Nat} {σ : Mem}
set_option maxRecDepth 100000 in
set_option maxHeartbeats 4000000 in
theorem w_X1_isIn {a1 : Int64} {a2 : Int64} {a3 : Int64} {r : Int32} (h : f_X1_isIn σ a1 a2 a3 = some r) : Met l yX1_isIn (ws_ yX1_isIn cX1_isIn 6 (some .boolean)) rm_X1_isIn (va_Pc [.long a1, .long a2, .long a3] (PreG D (Ew D A) A ad S σ)) (QG D A ad S (some (.int r)) σ) 0 0 A := by
  refine y_met (by decide) (Nat.le_of_ble_eq_true rfl) (fun p e s m below meth c ls Z hS hl => ?_)
  have hx := Z.1
  have hb := Z.2.1
  have hown := Z.2.2.2.2.2.1
  have hts := Z.2.2.2.2.2.2.1
  unfold f_X1_isIn at h
  refine lv_lload_n hx hb dX1_isIn_0 rfl (lv_at hl 0 rfl) ?_
  refine lv_lload_n hx hb dX1_isIn_1 rfl (lv_at hl 1 rfl) ?_
  refine y_lcmp_lt (tgt := 17) hx hb dX1_isIn_2 dX1_isIn_3 (by decide) (fun c1 => ?_) (fun c1 => ?_)
  · have h := if_t h c1
    refine lv_iconst (v := (0 : Int32)) hx hb dX1_isIn_17 (by decide) ?_
    exact h_zret Z hS dX1_isIn_18 h
  · have h := if_f h c1
    refine lv_lload_n hx hb dX1_isIn_6 rfl (lv_at hl 0 rfl) ?_
    refine lv_lload hx hb dX1_isIn_7 (lv_at hl 2 rfl) ?_
    refine y_lcmp_gt (tgt := 17) hx hb dX1_isIn_9 dX1_isIn_10 (by decide) (fun c2 => ?_) (fun c2 => ?_)
    · have h := if_t h c2
      refine lv_iconst (v := (0 : Int32)) hx hb dX1_isIn_17 (by decide) ?_
      exact h_zret Z hS dX1_isIn_18 h
    · have h := if_f h c2
      refine lv_iconst (v := (1 : Int32)) hx hb dX1_isIn_13 (by decide) ?_
      refine lv_goto (tgt := 18) hx hb dX1_isIn_14 (by decide) ?_
      exact h_zret Z hS dX1_isIn_18 h
end
theorem dX1_isSize_0 : decode cX1_isSize 0 = .ok (.iload_n 0, 1) := by decide +kernel
theorem dX1_isSize_1 : decode cX1_isSize 1 = .ok (.i2l, 1) := by decide +kernel
theorem dX1_isSize_2 : decode cX1_isSize 2 = .ok (.lconst 0, 1) := by decide +kernel
theorem dX1_isSize_3 : decode cX1_isSize 3 = .ok (.ldc2_w 3, 3) := by decide +kernel
theorem dX1_isSize_6 : decode cX1_isSize 6 = .ok (.invokestatic 5, 3) := by decide +kernel
theorem dX1_isSize_9 : decode cX1_isSize 9 = .ok (.ireturn, 1) := by decide +kernel
abbrev rm_X1_isSize : Room := k2_rm 1 25
section
variable {p : Program} {l : Launch} {e : Env} {s : State} {m : MethodId} {args : Array Value} {below : List Frame} {meth : Method} {c : Code} {D : gD} {A : Nat → Prop} {ad : Nat → Nat} {S : Nat → Nat × Nat} {σ : Mem}
set_option maxRecDepth 100000 in
set_option maxHeartbeats 4000000 in
theorem w_X1_isSize {a1 : Int32} {r : Int32} (h : f_X1_isSize σ a1 = some r) : Met l yX1_isSize (ws_ yX1_isSize cX1_isSize 1 (some .boolean)) rm_X1_isSize (va_Pc [.int a1] (PreG D (Ew D A) A ad S σ)) (QG D A ad S (some (.int r)) σ) 0 0 A := by
  refine y_met (by decide) (Nat.le_of_ble_eq_true rfl) (fun p e s m below meth c ls Z hS hl => ?_)
  have hx := Z.1
  have hb := Z.2.1
  have hown := Z.2.2.2.2.2.1
  have hts := Z.2.2.2.2.2.2.1
  unfold f_X1_isSize at h
  refine lv_iload_n hx hb dX1_isSize_0 rfl (lv_at hl 0 rfl) ?_
  refine lv_i2l hx hb dX1_isSize_1 rfl ?_
  refine lv_lconst (v := (0 : Int64)) hx hb dX1_isSize_2 (by decide) ?_
  refine lv_ldc2 (v := (7 : Int64)) hx hb hown (hts _ q353) dX1_isSize_3 ?_
  refine h_ci hS h (fun z hz => h_rS (rest := []) Z hS v_X1_5 (w_X1_isIn hz) rfl rfl ⟨by decide, by decide⟩ rfl hl.1 rfl (Nat.le_of_ble_eq_true rfl) (Nat.zero_le _) (Nat.zero_le _) dX1_isSize_6) (fun x1 H locs hS h => ?_)
  exact h_zret Z hS dX1_isSize_9 h
end
theorem dX1_grain_0 : decode cX1_grain 0 = .ok (.iload_n 1, 1) := by decide +kernel
theorem dX1_grain_1 : decode cX1_grain 1 = .ok (.invokestatic 132, 3) := by decide +kernel
theorem dX1_grain_4 : decode cX1_grain 4 = .ok (.ifCond .eq 27, 3) := by decide +kernel
theorem dX1_grain_7 : decode cX1_grain 7 = .ok (.iload_n 2, 1) := by decide +kernel
theorem dX1_grain_8 : decode cX1_grain 8 = .ok (.i2l, 1) := by decide +kernel
theorem dX1_grain_9 : decode cX1_grain 9 = .ok (.lconst 0, 1) := by decide +kernel
theorem dX1_grain_10 : decode cX1_grain 10 = .ok (.ldc2_w 136, 3) := by decide +kernel
theorem dX1_grain_13 : decode cX1_grain 13 = .ok (.invokestatic 5, 3) := by decide +kernel
theorem dX1_grain_16 : decode cX1_grain 16 = .ok (.ifCond .eq 15, 3) := by decide +kernel
theorem dX1_grain_19 : decode cX1_grain 19 = .ok (.iload_n 3, 1) := by decide +kernel
theorem dX1_grain_20 : decode cX1_grain 20 = .ok (.i2l, 1) := by decide +kernel
theorem dX1_grain_21 : decode cX1_grain 21 = .ok (.lconst 0, 1) := by decide +kernel
theorem dX1_grain_22 : decode cX1_grain 22 = .ok (.ldc2_w 138, 3) := by decide +kernel
theorem dX1_grain_25 : decode cX1_grain 25 = .ok (.invokestatic 5, 3) := by decide +kernel
theorem dX1_grain_28 : decode cX1_grain 28 = .ok (.ifCond .ne 5, 3) := by decide +kernel
theorem dX1_grain_31 : decode cX1_grain 31 = .ok (.iconst 0, 1) := by decide +kernel
theorem dX1_grain_32 : decode cX1_grain 32 = .ok (.ireturn, 1) := by decide +kernel
theorem dX1_grain_33 : decode cX1_grain 33 = .ok (.iload_n 2, 1) := by decide +kernel
theorem dX1_grain_34 : decode cX1_grain 34 = .ok (.ifCond .ne 13, 3) := by decide +kernel
theorem dX1_grain_37 : decode cX1_grain 37 = .ok (.aload_n 0, 1) := by decide +kernel
theorem dX1_grain_38 : decode cX1_grain 38 = .ok (.getfield 18, 3) := by decide +kernel
theorem dX1_grain_41 : decode cX1_grain 41 = .ok (.getfield 123, 3) := by decide +kernel
theorem dX1_grain_44 : decode cX1_grain 44 = .ok (.goto 25, 3) := by decide +kernel
theorem dX1_grain_47 : decode cX1_grain 47 = .ok (.iload_n 2, 1) := by decide +kernel
theorem dX1_grain_48 : decode cX1_grain 48 = .ok (.iconst 1, 1) := by decide +kernel
theorem dX1_grain_49 : decode cX1_grain 49 = .ok (.if_icmp .ne 13, 3) := by decide +kernel
theorem dX1_grain_52 : decode cX1_grain 52 = .ok (.aload_n 0, 1) := by decide +kernel
theorem dX1_grain_53 : decode cX1_grain 53 = .ok (.getfield 18, 3) := by decide +kernel
theorem dX1_grain_56 : decode cX1_grain 56 = .ok (.getfield 126, 3) := by decide +kernel
theorem dX1_grain_59 : decode cX1_grain 59 = .ok (.goto 10, 3) := by decide +kernel
theorem dX1_grain_62 : decode cX1_grain 62 = .ok (.aload_n 0, 1) := by decide +kernel
theorem dX1_grain_63 : decode cX1_grain 63 = .ok (.getfield 18, 3) := by decide +kernel
theorem dX1_grain_66 : decode cX1_grain 66 = .ok (.getfield 129, 3) := by decide +kernel
theorem dX1_grain_69 : decode cX1_grain 69 = .ok (.astore 4, 2) := by decide +kernel
theorem dX1_grain_71 : decode cX1_grain 71 = .ok (.aload 4, 2) := by decide +kernel
theorem dX1_grain_73 : decode cX1_grain 73 = .ok (.iload_n 1, 1) := by decide +kernel
theorem dX1_grain_74 : decode cX1_grain 74 = .ok (.iload_n 3, 1) := by decide +kernel
theorem dX1_grain_75 : decode cX1_grain 75 = .ok (.iastore, 1) := by decide +kernel
theorem dX1_grain_76 : decode cX1_grain 76 = .ok (.iconst 1, 1) := by decide +kernel
theorem dX1_grain_77 : decode cX1_grain 77 = .ok (.ireturn, 1) := by decide +kernel
abbrev rm_X1_grain : Room := k2_rm 2 45
section
variable {p : Program} {l : Launch} {e : Env} {s : State} {m : MethodId} {args : Array Value} {below : List Frame} {meth : Method} {c : Code} {D : gD} {A : Nat → Prop} {ad : Nat → Nat} {S : Nat → Nat × Nat} {σ : Mem}
set_option maxRecDepth 100000 in
set_option maxHeartbeats 4000000 in
theorem w_X1_grain {a1 : Int32} {a2 : Int32} {a3 : Int32} (hi0 : S 0 = (10, 0)) {r : (Mem × Int32)} (h : f_X1_grain σ a1 a2 a3 = some r) : Met l yX1_grain (ws_ yX1_grain cX1_grain 5 (some .boolean)) rm_X1_grain (va_Pc [.ref (ad 0), .int a1, .int a2, .int a3] (PreG D (Ew D A) A ad S σ)) (QG D A ad S (some (.int r.2)) r.1) 0 0 A := by
  refine y_met (by decide) (Nat.le_of_ble_eq_true rfl) (fun p e s m below meth c ls Z hS hl => ?_)
  have hx := Z.1
  have hb := Z.2.1
  have hown := Z.2.2.2.2.2.1
  have hts := Z.2.2.2.2.2.2.1
  unfold f_X1_grain at h
  refine lv_iload_n hx hb dX1_grain_0 rfl (lv_at hl 1 rfl) ?_
  refine h_ci hS h (fun z hz => h_rS (rest := []) Z hS v_X1_132 (w_X1_isSize hz) rfl rfl ⟨by decide, by decide⟩ rfl hl.1 rfl (Nat.le_of_ble_eq_true rfl) (Nat.zero_le _) (Nat.zero_le _) dX1_grain_1) (fun x1 H locs hS h => ?_)
  refine lv_if_eq (tgt := 31) hx hb dX1_grain_4 (by decide) (fun c2 => ?_) (fun c2 => ?_)
  · have h := if_t h c2
    refine lv_iconst (v := (0 : Int32)) hx hb dX1_grain_31 (by decide) ?_
    exact h_zretm Z hS dX1_grain_32 h
  · have h := if_f h c2
    refine lv_iload_n hx hb dX1_grain_7 rfl (lv_at hl 2 rfl) ?_
    refine lv_i2l hx hb dX1_grain_8 rfl ?_
    refine lv_lconst (v := (0 : Int64)) hx hb dX1_grain_9 (by decide) ?_
    refine lv_ldc2 (v := (2 : Int64)) hx hb hown (hts _ q357) dX1_grain_10 ?_
    refine h_ci hS h (fun z hz => h_rS (rest := []) Z hS v_X1_5 (w_X1_isIn hz) rfl rfl ⟨by decide, by decide⟩ rfl hl.1 rfl (Nat.le_of_ble_eq_true rfl) (Nat.zero_le _) (Nat.zero_le _) dX1_grain_13) (fun x3 H locs hS h => ?_)
    refine lv_if_eq (tgt := 31) hx hb dX1_grain_16 (by decide) (fun c4 => ?_) (fun c4 => ?_)
    · have h := if_t h c4
      refine lv_iconst (v := (0 : Int32)) hx hb dX1_grain_31 (by decide) ?_
      exact h_zretm Z hS dX1_grain_32 h
    · have h := if_f h c4
      refine lv_iload_n hx hb dX1_grain_19 rfl (lv_at hl 3 rfl) ?_
      refine lv_i2l hx hb dX1_grain_20 rfl ?_
      refine lv_lconst (v := (0 : Int64)) hx hb dX1_grain_21 (by decide) ?_
      refine lv_ldc2 (v := (1000 : Int64)) hx hb hown (hts _ q358) dX1_grain_22 ?_
      refine h_ci hS h (fun z hz => h_rS (rest := []) Z hS v_X1_5 (w_X1_isIn hz) rfl rfl ⟨by decide, by decide⟩ rfl hl.1 rfl (Nat.le_of_ble_eq_true rfl) (Nat.zero_le _) (Nat.zero_le _) dX1_grain_25) (fun x5 H locs hS h => ?_)
      refine lv_if_ne (tgt := 33) hx hb dX1_grain_28 (by decide) (fun c6 => ?_) (fun c6 => ?_)
      · have h := if_f h c6
        refine lv_iload_n hx hb dX1_grain_33 rfl (lv_at hl 2 rfl) ?_
        obtain ⟨j8, hp9, h⟩ := bnd_el h
        have K9 : S j8 = (1, 8) → ∀ (H : Heap) (locs : List Loc) (ls : Array Slot), St D A ad S σ s.heap H locs → lv_has ls 5 [(1, .int a1), (3, .int a3)] → W p l e rm_X1_grain s m ([.ref (ad 0), .int a1, .int a2, .int a3] : List Value).toArray below meth c H locs 0 0 (MQ below (QG D A ad S (some (.int r.2)) r.1) ([.ref (ad 0), .int a1, .int a2, .int a3] : List Value).toArray s 0 0 A) (F0 m 69 ls [.ref (ad j8)]) := by
          intro hj8 H locs ls hS hl
          refine lv_astore (lv' := [(4, .ref (ad j8)), (1, .int a1), (3, .int a3)]) hx hb dX1_grain_69 hl (by decide) rfl (fun ls hl => ?_)
          refine lv_aload hx hb dX1_grain_71 (lv_at hl 0 rfl) ?_
          refine lv_iload_n hx hb dX1_grain_73 rfl (lv_at hl 1 rfl) ?_
          refine lv_iload_n hx hb dX1_grain_74 rfl (lv_at hl 2 rfl) ?_
          refine h_iast Z hS hj8 dX1_grain_75 h (fun σ10 H locs hS h => ?_)
          refine lv_iconst (v := (1 : Int32)) hx hb dX1_grain_76 (by decide) ?_
          exact h_zretm Z hS dX1_grain_77 h
        clear h
        have h := hp9
        clear hp9
        refine lv_if_ne (tgt := 47) hx hb dX1_grain_34 (by decide) (fun c7 => ?_) (fun c7 => ?_)
        · have h := if_f h c7
          refine lv_iload_n hx hb dX1_grain_47 rfl (lv_at hl 2 rfl) ?_
          refine lv_iconst (v := (1 : Int32)) hx hb dX1_grain_48 (by decide) ?_
          refine lv_icmp_ne (tgt := 62) hx hb dX1_grain_49 (by decide) (fun c13 => ?_) (fun c13 => ?_)
          · have h := if_f h c13
            refine lv_aload_n hx hb dX1_grain_62 rfl (lv_at hl 0 rfl) ?_
            refine h_getC (n := 100) (j := 100) (sh := (11, 0)) Z hS cls_0 hi0 (by decide) rfl rfl rfl fl_X1_18_0 dX1_grain_63 (fun hc16 => ?_)
            refine h_getC (n := 3) (j := 103) (sh := (1, 8)) Z hS cls_1 hc16 (by decide) rfl rfl rfl fl_X1_129_1 dX1_grain_66 (fun hc17 => ?_)
            cases h
            exact K9 hc17 _ _ _ hS (lv_sub hl [1, 3] rfl)
          · have h := if_t h c13
            refine lv_aload_n hx hb dX1_grain_52 rfl (lv_at hl 0 rfl) ?_
            refine h_getC (n := 100) (j := 100) (sh := (11, 0)) Z hS cls_0 hi0 (by decide) rfl rfl rfl fl_X1_18_0 dX1_grain_53 (fun hc14 => ?_)
            refine h_getC (n := 2) (j := 102) (sh := (1, 8)) Z hS cls_1 hc14 (by decide) rfl rfl rfl fl_X1_126_1 dX1_grain_56 (fun hc15 => ?_)
            refine lv_goto (tgt := 69) hx hb dX1_grain_59 (by decide) ?_
            cases h
            exact K9 hc15 _ _ _ hS (lv_sub hl [1, 3] rfl)
        · have h := if_t h c7
          refine lv_aload_n hx hb dX1_grain_37 rfl (lv_at hl 0 rfl) ?_
          refine h_getC (n := 100) (j := 100) (sh := (11, 0)) Z hS cls_0 hi0 (by decide) rfl rfl rfl fl_X1_18_0 dX1_grain_38 (fun hc11 => ?_)
          refine h_getC (n := 1) (j := 101) (sh := (1, 8)) Z hS cls_1 hc11 (by decide) rfl rfl rfl fl_X1_123_1 dX1_grain_41 (fun hc12 => ?_)
          refine lv_goto (tgt := 69) hx hb dX1_grain_44 (by decide) ?_
          cases h
          exact K9 hc12 _ _ _ hS (lv_sub hl [1, 3] rfl)
      · have h := if_t h c6
        refine lv_iconst (v := (0 : Int32)) hx hb dX1_grain_31 (by decide) ?_
        exact h_zretm Z hS dX1_grain_32 h
end
theorem dX1_isFilter_0 : decode cX1_isFilter 0 = .ok (.iload_n 1, 1) := by decide +kernel
theorem dX1_isFilter_1 : decode cX1_isFilter 1 = .ok (.ifCond .lt 15, 3) := by decide +kernel
theorem dX1_isFilter_4 : decode cX1_isFilter 4 = .ok (.iload_n 1, 1) := by decide +kernel
theorem dX1_isFilter_5 : decode cX1_isFilter 5 = .ok (.aload_n 0, 1) := by decide +kernel
theorem dX1_isFilter_6 : decode cX1_isFilter 6 = .ok (.getfield 140, 3) := by decide +kernel
theorem dX1_isFilter_9 : decode cX1_isFilter 9 = .ok (.if_icmp .ge 7, 3) := by decide +kernel
theorem dX1_isFilter_12 : decode cX1_isFilter 12 = .ok (.iconst 1, 1) := by decide +kernel
theorem dX1_isFilter_13 : decode cX1_isFilter 13 = .ok (.goto 4, 3) := by decide +kernel
theorem dX1_isFilter_16 : decode cX1_isFilter 16 = .ok (.iconst 0, 1) := by decide +kernel
theorem dX1_isFilter_17 : decode cX1_isFilter 17 = .ok (.ireturn, 1) := by decide +kernel
abbrev rm_X1_isFilter : Room := k2_rm 0 0
section
variable {p : Program} {l : Launch} {e : Env} {s : State} {m : MethodId} {args : Array Value} {below : List Frame} {meth : Method} {c : Code} {D : gD} {A : Nat → Prop} {ad : Nat → Nat} {S : Nat → Nat × Nat} {σ : Mem}
set_option maxRecDepth 100000 in
set_option maxHeartbeats 4000000 in
theorem w_X1_isFilter {a1 : Int32} (hi0 : S 0 = (10, 0)) {r : Int32} (h : f_X1_isFilter σ a1 = some r) : Met l yX1_isFilter (ws_ yX1_isFilter cX1_isFilter 2 (some .boolean)) rm_X1_isFilter (va_Pc [.ref (ad 0), .int a1] (PreG D (Ew D A) A ad S σ)) (QG D A ad S (some (.int r)) σ) 0 0 A := by
  refine y_met (by decide) (Nat.le_of_ble_eq_true rfl) (fun p e s m below meth c ls Z hS hl => ?_)
  have hx := Z.1
  have hb := Z.2.1
  have hown := Z.2.2.2.2.2.1
  have hts := Z.2.2.2.2.2.2.1
  unfold f_X1_isFilter at h
  refine lv_iload_n hx hb dX1_isFilter_0 rfl (lv_at hl 1 rfl) ?_
  refine lv_if_lt (tgt := 16) hx hb dX1_isFilter_1 (by decide) (fun c1 => ?_) (fun c1 => ?_)
  · have h := if_t h c1
    refine lv_iconst (v := (0 : Int32)) hx hb dX1_isFilter_16 (by decide) ?_
    exact h_zret Z hS dX1_isFilter_17 h
  · have h := if_f h c1
    refine lv_iload_n hx hb dX1_isFilter_4 rfl (lv_at hl 1 rfl) ?_
    refine lv_aload_n hx hb dX1_isFilter_5 rfl (lv_at hl 0 rfl) ?_
    refine h_getI Z hS cls_0 hi0 (by decide) rfl fl_X1_140_0 dX1_isFilter_6 h (fun x2 h => ?_)
    refine lv_icmp_ge (tgt := 16) hx hb dX1_isFilter_9 (by decide) (fun c3 => ?_) (fun c3 => ?_)
    · have h := if_t h c3
      refine lv_iconst (v := (0 : Int32)) hx hb dX1_isFilter_16 (by decide) ?_
      exact h_zret Z hS dX1_isFilter_17 h
    · have h := if_f h c3
      refine lv_iconst (v := (1 : Int32)) hx hb dX1_isFilter_12 (by decide) ?_
      refine lv_goto (tgt := 17) hx hb dX1_isFilter_13 (by decide) ?_
      exact h_zret Z hS dX1_isFilter_17 h
end
theorem dX1_set_0 : decode cX1_set 0 = .ok (.aload_n 0, 1) := by decide +kernel
theorem dX1_set_1 : decode cX1_set 1 = .ok (.iload_n 1, 1) := by decide +kernel
theorem dX1_set_2 : decode cX1_set 2 = .ok (.invokevirtual 144, 3) := by decide +kernel
theorem dX1_set_5 : decode cX1_set 5 = .ok (.ifCond .eq 38, 3) := by decide +kernel
theorem dX1_set_8 : decode cX1_set 8 = .ok (.iload_n 2, 1) := by decide +kernel
theorem dX1_set_9 : decode cX1_set 9 = .ok (.i2l, 1) := by decide +kernel
theorem dX1_set_10 : decode cX1_set 10 = .ok (.lconst 0, 1) := by decide +kernel
theorem dX1_set_11 : decode cX1_set 11 = .ok (.ldc2_w 136, 3) := by decide +kernel
theorem dX1_set_14 : decode cX1_set 14 = .ok (.invokestatic 5, 3) := by decide +kernel
theorem dX1_set_17 : decode cX1_set 17 = .ok (.ifCond .eq 26, 3) := by decide +kernel
theorem dX1_set_20 : decode cX1_set 20 = .ok (.iload_n 3, 1) := by decide +kernel
theorem dX1_set_21 : decode cX1_set 21 = .ok (.i2l, 1) := by decide +kernel
theorem dX1_set_22 : decode cX1_set 22 = .ok (.lconst 1, 1) := by decide +kernel
theorem dX1_set_23 : decode cX1_set 23 = .ok (.iload_n 2, 1) := by decide +kernel
theorem dX1_set_24 : decode cX1_set 24 = .ok (.iconst 2, 1) := by decide +kernel
theorem dX1_set_25 : decode cX1_set 25 = .ok (.if_icmp .ne 9, 3) := by decide +kernel
theorem dX1_set_28 : decode cX1_set 28 = .ok (.ldc2_w 162, 3) := by decide +kernel
theorem dX1_set_31 : decode cX1_set 31 = .ok (.goto 6, 3) := by decide +kernel
theorem dX1_set_34 : decode cX1_set 34 = .ok (.ldc2_w 138, 3) := by decide +kernel
theorem dX1_set_37 : decode cX1_set 37 = .ok (.invokestatic 5, 3) := by decide +kernel
theorem dX1_set_40 : decode cX1_set 40 = .ok (.ifCond .ne 5, 3) := by decide +kernel
theorem dX1_set_43 : decode cX1_set 43 = .ok (.iconst 0, 1) := by decide +kernel
theorem dX1_set_44 : decode cX1_set 44 = .ok (.ireturn, 1) := by decide +kernel
theorem dX1_set_45 : decode cX1_set 45 = .ok (.aload_n 0, 1) := by decide +kernel
theorem dX1_set_46 : decode cX1_set 46 = .ok (.getfield 24, 3) := by decide +kernel
theorem dX1_set_49 : decode cX1_set 49 = .ok (.iload_n 1, 1) := by decide +kernel
theorem dX1_set_50 : decode cX1_set 50 = .ok (.aaload, 1) := by decide +kernel
theorem dX1_set_51 : decode cX1_set 51 = .ok (.getfield 164, 3) := by decide +kernel
theorem dX1_set_54 : decode cX1_set 54 = .ok (.iload_n 2, 1) := by decide +kernel
theorem dX1_set_55 : decode cX1_set 55 = .ok (.iload_n 3, 1) := by decide +kernel
theorem dX1_set_56 : decode cX1_set 56 = .ok (.iastore, 1) := by decide +kernel
theorem dX1_set_57 : decode cX1_set 57 = .ok (.iconst 1, 1) := by decide +kernel
theorem dX1_set_58 : decode cX1_set 58 = .ok (.ireturn, 1) := by decide +kernel
abbrev rm_X1_set : Room := k2_rm 1 25
section
variable {p : Program} {l : Launch} {e : Env} {s : State} {m : MethodId} {args : Array Value} {below : List Frame} {meth : Method} {c : Code} {D : gD} {A : Nat → Prop} {ad : Nat → Nat} {S : Nat → Nat × Nat} {σ : Mem}
set_option maxRecDepth 100000 in
set_option maxHeartbeats 4000000 in
theorem w_X1_set {a1 : Int32} {a2 : Int32} {a3 : Int32} (hi0 : S 0 = (10, 0)) {r : (Mem × Int32)} (h : f_X1_set σ a1 a2 a3 = some r) : Met l yX1_set (ws_ yX1_set cX1_set 4 (some .boolean)) rm_X1_set (va_Pc [.ref (ad 0), .int a1, .int a2, .int a3] (PreG D (Ew D A) A ad S σ)) (QG D A ad S (some (.int r.2)) r.1) 0 0 A := by
  refine y_met (by decide) (Nat.le_of_ble_eq_true rfl) (fun p e s m below meth c ls Z hS hl => ?_)
  have hx := Z.1
  have hb := Z.2.1
  have hown := Z.2.2.2.2.2.1
  have hts := Z.2.2.2.2.2.2.1
  unfold f_X1_set at h
  refine lv_aload_n hx hb dX1_set_0 rfl (lv_at hl 0 rfl) ?_
  refine lv_iload_n hx hb dX1_set_1 rfl (lv_at hl 1 rfl) ?_
  refine h_ci hS h (fun z hz => h_rV (rest := []) Z hS hi0 rfl v_X1_144 (w_X1_isFilter hi0 hz) rfl rfl ⟨by decide, by decide⟩ rfl hl.1 rfl (Nat.le_of_ble_eq_true rfl) (Nat.zero_le _) (Nat.zero_le _) dX1_set_2) (fun x1 H locs hS h => ?_)
  refine lv_if_eq (tgt := 43) hx hb dX1_set_5 (by decide) (fun c2 => ?_) (fun c2 => ?_)
  · have h := if_t h c2
    refine lv_iconst (v := (0 : Int32)) hx hb dX1_set_43 (by decide) ?_
    exact h_zretm Z hS dX1_set_44 h
  · have h := if_f h c2
    refine lv_iload_n hx hb dX1_set_8 rfl (lv_at hl 2 rfl) ?_
    refine lv_i2l hx hb dX1_set_9 rfl ?_
    refine lv_lconst (v := (0 : Int64)) hx hb dX1_set_10 (by decide) ?_
    refine lv_ldc2 (v := (2 : Int64)) hx hb hown (hts _ q357) dX1_set_11 ?_
    refine h_ci hS h (fun z hz => h_rS (rest := []) Z hS v_X1_5 (w_X1_isIn hz) rfl rfl ⟨by decide, by decide⟩ rfl hl.1 rfl (Nat.le_of_ble_eq_true rfl) (Nat.zero_le _) (Nat.zero_le _) dX1_set_14) (fun x3 H locs hS h => ?_)
    refine lv_if_eq (tgt := 43) hx hb dX1_set_17 (by decide) (fun c4 => ?_) (fun c4 => ?_)
    · have h := if_t h c4
      refine lv_iconst (v := (0 : Int32)) hx hb dX1_set_43 (by decide) ?_
      exact h_zretm Z hS dX1_set_44 h
    · have h := if_f h c4
      refine lv_iload_n hx hb dX1_set_20 rfl (lv_at hl 3 rfl) ?_
      refine lv_i2l hx hb dX1_set_21 rfl ?_
      refine lv_lconst (v := (1 : Int64)) hx hb dX1_set_22 (by decide) ?_
      refine lv_iload_n hx hb dX1_set_23 rfl (lv_at hl 2 rfl) ?_
      refine lv_iconst (v := (2 : Int32)) hx hb dX1_set_24 (by decide) ?_
      obtain ⟨y6, hp7, h⟩ := bnd_el h
      have K7 : ∀ (H : Heap) (locs : List Loc) (ls : Array Slot), St D A ad S σ s.heap H locs → lv_has ls 4 [(0, .ref (ad 0)), (1, .int a1), (2, .int a2), (3, .int a3)] → W p l e rm_X1_set s m ([.ref (ad 0), .int a1, .int a2, .int a3] : List Value).toArray below meth c H locs 0 0 (MQ below (QG D A ad S (some (.int r.2)) r.1) ([.ref (ad 0), .int a1, .int a2, .int a3] : List Value).toArray s 0 0 A) (F0 m 37 ls [.long y6, .long (1 : Int64), .long (a3).toInt64]) := by
        intro H locs ls hS hl
        refine h_ci hS h (fun z hz => h_rS (rest := []) Z hS v_X1_5 (w_X1_isIn hz) rfl rfl ⟨by decide, by decide⟩ rfl hl.1 rfl (Nat.le_of_ble_eq_true rfl) (Nat.zero_le _) (Nat.zero_le _) dX1_set_37) (fun x8 H locs hS h => ?_)
        refine lv_if_ne (tgt := 45) hx hb dX1_set_40 (by decide) (fun c9 => ?_) (fun c9 => ?_)
        · have h := if_f h c9
          refine lv_aload_n hx hb dX1_set_45 rfl (lv_at hl 0 rfl) ?_
          refine h_getC (n := 3) (j := 3) (sh := (5, 8)) Z hS cls_0 hi0 (by decide) rfl rfl rfl fl_X1_24_0 dX1_set_46 (fun hc10 => ?_)
          refine lv_iload_n hx hb dX1_set_49 rfl (lv_at hl 1 rfl) ?_
          refine h_aldN (sh := (12, 0)) Z hS hc10 (by decide) (by decide) rfl dX1_set_50 h (fun j11 hj11 h => ?_)
          refine h_getC (n := 4) (j := (j11 + 4)) (sh := (1, 3)) Z hS cls_2 hj11 (by decide) rfl rfl rfl fl_X1_164_2 dX1_set_51 (fun hc12 => ?_)
          refine lv_iload_n hx hb dX1_set_54 rfl (lv_at hl 2 rfl) ?_
          refine lv_iload_n hx hb dX1_set_55 rfl (lv_at hl 3 rfl) ?_
          refine h_iast Z hS hc12 dX1_set_56 h (fun σ13 H locs hS h => ?_)
          refine lv_iconst (v := (1 : Int32)) hx hb dX1_set_57 (by decide) ?_
          exact h_zretm Z hS dX1_set_58 h
        · have h := if_t h c9
          refine lv_iconst (v := (0 : Int32)) hx hb dX1_set_43 (by decide) ?_
          exact h_zretm Z hS dX1_set_44 h
      clear h
      have h := hp7
      clear hp7
      refine lv_icmp_ne (tgt := 34) hx hb dX1_set_25 (by decide) (fun c5 => ?_) (fun c5 => ?_)
      · have h := if_f h c5
        refine lv_ldc2 (v := (1000 : Int64)) hx hb hown (hts _ q358) dX1_set_34 ?_
        cases h
        exact K7 _ _ _ hS (lv_sub hl [0, 1, 2, 3] rfl)
      · have h := if_t h c5
        refine lv_ldc2 (v := (200 : Int64)) hx hb hown (hts _ q399) dX1_set_28 ?_
        refine lv_goto (tgt := 37) hx hb dX1_set_31 (by decide) ?_
        cases h
        exact K7 _ _ _ hS (lv_sub hl [0, 1, 2, 3] rfl)
end
theorem dX1_isCell_0 : decode cX1_isCell 0 = .ok (.aload_n 0, 1) := by decide +kernel
theorem dX1_isCell_1 : decode cX1_isCell 1 = .ok (.iload_n 1, 1) := by decide +kernel
theorem dX1_isCell_2 : decode cX1_isCell 2 = .ok (.invokevirtual 144, 3) := by decide +kernel
theorem dX1_isCell_5 : decode cX1_isCell 5 = .ok (.ifCond .eq 28, 3) := by decide +kernel
theorem dX1_isCell_8 : decode cX1_isCell 8 = .ok (.iload_n 2, 1) := by decide +kernel
theorem dX1_isCell_9 : decode cX1_isCell 9 = .ok (.i2l, 1) := by decide +kernel
theorem dX1_isCell_10 : decode cX1_isCell 10 = .ok (.lconst 0, 1) := by decide +kernel
theorem dX1_isCell_11 : decode cX1_isCell 11 = .ok (.aload_n 0, 1) := by decide +kernel
theorem dX1_isCell_12 : decode cX1_isCell 12 = .ok (.getfield 24, 3) := by decide +kernel
theorem dX1_isCell_15 : decode cX1_isCell 15 = .ok (.iload_n 1, 1) := by decide +kernel
theorem dX1_isCell_16 : decode cX1_isCell 16 = .ok (.aaload, 1) := by decide +kernel
theorem dX1_isCell_17 : decode cX1_isCell 17 = .ok (.getfield 147, 3) := by decide +kernel
theorem dX1_isCell_20 : decode cX1_isCell 20 = .ok (.iconst 1, 1) := by decide +kernel
theorem dX1_isCell_21 : decode cX1_isCell 21 = .ok (.isub, 1) := by decide +kernel
theorem dX1_isCell_22 : decode cX1_isCell 22 = .ok (.i2l, 1) := by decide +kernel
theorem dX1_isCell_23 : decode cX1_isCell 23 = .ok (.invokestatic 5, 3) := by decide +kernel
theorem dX1_isCell_26 : decode cX1_isCell 26 = .ok (.ifCond .eq 7, 3) := by decide +kernel
theorem dX1_isCell_29 : decode cX1_isCell 29 = .ok (.iconst 1, 1) := by decide +kernel
theorem dX1_isCell_30 : decode cX1_isCell 30 = .ok (.goto 4, 3) := by decide +kernel
theorem dX1_isCell_33 : decode cX1_isCell 33 = .ok (.iconst 0, 1) := by decide +kernel
theorem dX1_isCell_34 : decode cX1_isCell 34 = .ok (.ireturn, 1) := by decide +kernel
abbrev rm_X1_isCell : Room := k2_rm 1 25
section
variable {p : Program} {l : Launch} {e : Env} {s : State} {m : MethodId} {args : Array Value} {below : List Frame} {meth : Method} {c : Code} {D : gD} {A : Nat → Prop} {ad : Nat → Nat} {S : Nat → Nat × Nat} {σ : Mem}
set_option maxRecDepth 100000 in
set_option maxHeartbeats 4000000 in
theorem w_X1_isCell {a1 : Int32} {a2 : Int32} (hi0 : S 0 = (10, 0)) {r : Int32} (h : f_X1_isCell σ a1 a2 = some r) : Met l yX1_isCell (ws_ yX1_isCell cX1_isCell 3 (some .boolean)) rm_X1_isCell (va_Pc [.ref (ad 0), .int a1, .int a2] (PreG D (Ew D A) A ad S σ)) (QG D A ad S (some (.int r)) σ) 0 0 A := by
  refine y_met (by decide) (Nat.le_of_ble_eq_true rfl) (fun p e s m below meth c ls Z hS hl => ?_)
  have hx := Z.1
  have hb := Z.2.1
  have hown := Z.2.2.2.2.2.1
  have hts := Z.2.2.2.2.2.2.1
  unfold f_X1_isCell at h
  refine lv_aload_n hx hb dX1_isCell_0 rfl (lv_at hl 0 rfl) ?_
  refine lv_iload_n hx hb dX1_isCell_1 rfl (lv_at hl 1 rfl) ?_
  refine h_ci hS h (fun z hz => h_rV (rest := []) Z hS hi0 rfl v_X1_144 (w_X1_isFilter hi0 hz) rfl rfl ⟨by decide, by decide⟩ rfl hl.1 rfl (Nat.le_of_ble_eq_true rfl) (Nat.zero_le _) (Nat.zero_le _) dX1_isCell_2) (fun x1 H locs hS h => ?_)
  refine lv_if_eq (tgt := 33) hx hb dX1_isCell_5 (by decide) (fun c2 => ?_) (fun c2 => ?_)
  · have h := if_t h c2
    refine lv_iconst (v := (0 : Int32)) hx hb dX1_isCell_33 (by decide) ?_
    exact h_zret Z hS dX1_isCell_34 h
  · have h := if_f h c2
    refine lv_iload_n hx hb dX1_isCell_8 rfl (lv_at hl 2 rfl) ?_
    refine lv_i2l hx hb dX1_isCell_9 rfl ?_
    refine lv_lconst (v := (0 : Int64)) hx hb dX1_isCell_10 (by decide) ?_
    refine lv_aload_n hx hb dX1_isCell_11 rfl (lv_at hl 0 rfl) ?_
    refine h_getC (n := 3) (j := 3) (sh := (5, 8)) Z hS cls_0 hi0 (by decide) rfl rfl rfl fl_X1_24_0 dX1_isCell_12 (fun hc3 => ?_)
    refine lv_iload_n hx hb dX1_isCell_15 rfl (lv_at hl 1 rfl) ?_
    refine h_aldN (sh := (12, 0)) Z hS hc3 (by decide) (by decide) rfl dX1_isCell_16 h (fun j4 hj4 h => ?_)
    refine h_getI Z hS cls_2 hj4 (by decide) rfl fl_X1_147_2 dX1_isCell_17 h (fun x5 h => ?_)
    refine lv_iconst (v := (1 : Int32)) hx hb dX1_isCell_20 (by decide) ?_
    refine lv_isub hx hb dX1_isCell_21 ?_
    refine lv_i2l hx hb dX1_isCell_22 rfl ?_
    refine h_ci hS h (fun z hz => h_rS (rest := []) Z hS v_X1_5 (w_X1_isIn hz) rfl rfl ⟨by decide, by decide⟩ rfl hl.1 rfl (Nat.le_of_ble_eq_true rfl) (Nat.zero_le _) (Nat.zero_le _) dX1_isCell_23) (fun x6 H locs hS h => ?_)
    refine lv_if_eq (tgt := 33) hx hb dX1_isCell_26 (by decide) (fun c7 => ?_) (fun c7 => ?_)
    · have h := if_t h c7
      refine lv_iconst (v := (0 : Int32)) hx hb dX1_isCell_33 (by decide) ?_
      exact h_zret Z hS dX1_isCell_34 h
    · have h := if_f h c7
      refine lv_iconst (v := (1 : Int32)) hx hb dX1_isCell_29 (by decide) ?_
      refine lv_goto (tgt := 34) hx hb dX1_isCell_30 (by decide) ?_
      exact h_zret Z hS dX1_isCell_34 h
end
theorem dX4_of_0 : decode cX4_of 0 = .ok (.aload_n 0, 1) := by decide +kernel
theorem dX4_of_1 : decode cX4_of 1 = .ok (.getfield 9, 3) := by decide +kernel
theorem dX4_of_4 : decode cX4_of 4 = .ok (.iload_n 1, 1) := by decide +kernel
theorem dX4_of_5 : decode cX4_of 5 = .ok (.iaload, 1) := by decide +kernel
theorem dX4_of_6 : decode cX4_of 6 = .ok (.ireturn, 1) := by decide +kernel
abbrev rm_X4_of_4 : Room := k2_rm 0 0
section
variable {p : Program} {l : Launch} {e : Env} {s : State} {m : MethodId} {args : Array Value} {below : List Frame} {meth : Method} {c : Code} {D : gD} {A : Nat → Prop} {ad : Nat → Nat} {S : Nat → Nat × Nat} {σ : Mem}
set_option maxRecDepth 100000 in
set_option maxHeartbeats 4000000 in
theorem w_X4_of_4 {i0 : Nat} {a1 : Int32} (hi0 : S i0 = (14, 0)) {r : Int32} (h : f_X4_of σ i0 a1 = some r) : Met l yX4_of (ws_ yX4_of cX4_of 2 (some .int)) rm_X4_of_4 (va_Pc [.ref (ad i0), .int a1] (PreG D (Ew D A) A ad S σ)) (QG D A ad S (some (.int r)) σ) 0 0 A := by
  refine y_met (by decide) (Nat.le_of_ble_eq_true rfl) (fun p e s m below meth c ls Z hS hl => ?_)
  have hx := Z.1
  have hb := Z.2.1
  have hown := Z.2.2.2.2.2.1
  have hts := Z.2.2.2.2.2.2.1
  unfold f_X4_of at h
  refine lv_aload_n hx hb dX4_of_0 rfl (lv_at hl 0 rfl) ?_
  refine h_getC (n := 1) (j := (i0 + 1)) (sh := (1, 8)) Z hS cls_4 hi0 (by decide) rfl rfl rfl fl_X4_9_4 dX4_of_1 (fun hc1 => ?_)
  refine lv_iload_n hx hb dX4_of_4 rfl (lv_at hl 1 rfl) ?_
  refine h_iald Z hS hc1 dX4_of_5 h (fun x2 h => ?_)
  exact h_iret Z hS dX4_of_6 h
end
theorem dX19_all_0 : decode cX19_all 0 = .ok (.iconst 0, 1) := by decide +kernel
theorem dX19_all_1 : decode cX19_all 1 = .ok (.istore_n 1, 1) := by decide +kernel
theorem dX19_all_2 : decode cX19_all 2 = .ok (.iconst 0, 1) := by decide +kernel
theorem dX19_all_3 : decode cX19_all 3 = .ok (.istore_n 2, 1) := by decide +kernel
theorem dX19_all_4 : decode cX19_all 4 = .ok (.iload_n 2, 1) := by decide +kernel
theorem dX19_all_5 : decode cX19_all 5 = .ok (.bipush 8, 2) := by decide +kernel
theorem dX19_all_7 : decode cX19_all 7 = .ok (.if_icmp .ge 19, 3) := by decide +kernel
theorem dX19_all_10 : decode cX19_all 10 = .ok (.iload_n 1, 1) := by decide +kernel
theorem dX19_all_11 : decode cX19_all 11 = .ok (.aload_n 0, 1) := by decide +kernel
theorem dX19_all_12 : decode cX19_all 12 = .ok (.iload_n 2, 1) := by decide +kernel
theorem dX19_all_13 : decode cX19_all 13 = .ok (.invokeinterface 3 2, 5) := by decide +kernel
theorem dX19_all_18 : decode cX19_all 18 = .ok (.iadd, 1) := by decide +kernel
theorem dX19_all_19 : decode cX19_all 19 = .ok (.istore_n 1, 1) := by decide +kernel
theorem dX19_all_20 : decode cX19_all 20 = .ok (.iinc 2 1, 3) := by decide +kernel
theorem dX19_all_23 : decode cX19_all 23 = .ok (.goto (-19), 3) := by decide +kernel
theorem dX19_all_26 : decode cX19_all 26 = .ok (.iload_n 1, 1) := by decide +kernel
theorem dX19_all_27 : decode cX19_all 27 = .ok (.ireturn, 1) := by decide +kernel
abbrev rm_X19_all_4 : Room := k2_rm 1 21
section
variable {p : Program} {l : Launch} {e : Env} {s : State} {m : MethodId} {args : Array Value} {below : List Frame} {meth : Method} {c : Code} {D : gD} {A : Nat → Prop} {ad : Nat → Nat} {S : Nat → Nat × Nat} {σ : Mem}
set_option maxRecDepth 100000 in
set_option maxHeartbeats 4000000 in
theorem w_X19_all_4_L4 (Z : Cz D (Ew D A) A cX19_all 3 (some .int) RX19 p s m args meth c) {u0 : Nat} (hu0 : S u0 = (14, 0)) {r : Int32} {k26 : Int32 → Option Int32}
    (hk26 : ∀ (w1 : Int32) (H : Heap) (locs : List Loc) (ls : Array Slot), St D A ad S σ s.heap H locs → lv_has ls 3 [(1, .int w1)] → k26 w1 = some r → W p l e rm_X19_all_4 s m args below meth c H locs 0 0 (MQ below (QG D A ad S (some (.int r)) σ) args s 0 0 A) (F0 m 26 ls [])) :
    ∀ (n : Nat) (v1 : Int32) (v2 : Int32) (H : Heap) (locs : List Loc) (ls : Array Slot), St D A ad S σ s.heap H locs → lv_has ls 3 [(0, .ref (ad u0)), (1, .int v1), (2, .int v2)] → f_X19_all_L4 k26 σ u0 n v1 v2 = some r → W p l e rm_X19_all_4 s m args below meth c H locs 0 0 (MQ below (QG D A ad S (some (.int r)) σ) args s 0 0 A) (F0 m 4 ls []) := by
  have hx := Z.1
  have hb := Z.2.1
  have hown := Z.2.2.2.2.2.1
  have hts := Z.2.2.2.2.2.2.1
  intro n
  induction n with
  | zero => intro v1 v2 H locs ls hS hl h; cases h
  | succ n ih =>
    intro v1 v2 H locs ls hS hl h
    unfold f_X19_all_L4 at h
    refine lv_iload_n hx hb dX19_all_4 rfl (lv_at hl 2 rfl) ?_
    refine lv_bipush (v := (8 : Int32)) hx hb dX19_all_5 (by decide) ?_
    refine lv_icmp_ge (tgt := 26) hx hb dX19_all_7 (by decide) (fun c1 => ?_) (fun c1 => ?_)
    · have h := if_t h c1
      exact hk26 _ _ _ _ hS (lv_sub hl [1] rfl) h
    · have h := if_f h c1
      refine lv_iload_n hx hb dX19_all_10 rfl (lv_at hl 1 rfl) ?_
      refine lv_aload_n hx hb dX19_all_11 rfl (lv_at hl 0 rfl) ?_
      refine lv_iload_n hx hb dX19_all_12 rfl (lv_at hl 2 rfl) ?_
      refine h_ci5 hS h (fun z hz => h_rF (rest := [.int v1]) Z hS hu0 rfl vi_X19_3_4 (w_X4_of_4 hu0 hz) rfl rfl ⟨by decide, by decide⟩ rfl hl.1 rfl (Nat.le_of_ble_eq_true rfl) (Nat.zero_le _) (Nat.zero_le _) dX19_all_13) (fun x2 H locs hS h => ?_)
      refine lv_iadd hx hb dX19_all_18 ?_
      refine h_leti h (fun x3 h => ?_)
      refine lv_istore_n (lv' := [(1, .int x3), (0, .ref (ad u0)), (2, .int v2)]) hx hb dX19_all_19 rfl hl (by decide) rfl (fun ls hl => ?_)
      refine lv_iinc (v := (v2 + (1 : Int32))) (lv' := [(2, .int (v2 + (1 : Int32))), (1, .int x3), (0, .ref (ad u0))]) hx hb dX19_all_20 hl (k := 2) rfl rfl (by decide) rfl (fun ls hl => ?_)
      refine lv_goto (tgt := 4) hx hb dX19_all_23 (by decide) ?_
      exact ih _ _ _ _ _ hS (lv_sub hl [2, 1, 0] rfl) h
set_option maxRecDepth 100000 in
set_option maxHeartbeats 4000000 in
theorem w_X19_all_4 {i0 : Nat} (hi0 : S i0 = (14, 0)) {r : Int32} (h : f_X19_all σ i0 = some r) : Mg l yX19_all (ws_ yX19_all cX19_all 3 (some .int)) rm_X19_all_4 (va_Pc [.ref (ad i0)] (PreG D (Ew D A) A ad S σ)) (QG0 D A ad S (some (.int r)) σ) A := by
  refine y_metG (by decide) (Nat.le_of_ble_eq_true rfl) (fun p e s m below meth c ls Z hS hl => ?_)
  have hx := Z.1
  have hb := Z.2.1
  have hown := Z.2.2.2.2.2.1
  have hts := Z.2.2.2.2.2.2.1
  unfold f_X19_all at h
  refine lv_iconst (v := (0 : Int32)) hx hb dX19_all_0 (by decide) ?_
  refine lv_istore_n (lv' := [(1, .int (0 : Int32)), (0, .ref (ad i0))]) hx hb dX19_all_1 rfl hl (by decide) rfl (fun ls hl => ?_)
  refine lv_iconst (v := (0 : Int32)) hx hb dX19_all_2 (by decide) ?_
  refine lv_istore_n (lv' := [(2, .int (0 : Int32)), (1, .int (0 : Int32)), (0, .ref (ad i0))]) hx hb dX19_all_3 rfl hl (by decide) rfl (fun ls hl => ?_)
  refine w_X19_all_4_L4 Z hi0 (fun x4 H locs ls hS hl h => ?_) FU _ _ _ _ _ hS (lv_sub hl [2, 1, 0] rfl) h
  refine lv_iload_n hx hb dX19_all_26 rfl (lv_at hl 0 rfl) ?_
  exact h_iret Z hS dX19_all_27 h
end
theorem dX7_widthWith_0 : decode cX7_widthWith 0 = .ok (.iconst 0, 1) := by decide +kernel
theorem dX7_widthWith_1 : decode cX7_widthWith 1 = .ok (.aload_n 0, 1) := by decide +kernel
theorem dX7_widthWith_2 : decode cX7_widthWith 2 = .ok (.getfield 19, 3) := by decide +kernel
theorem dX7_widthWith_5 : decode cX7_widthWith 5 = .ok (.iload_n 1, 1) := by decide +kernel
theorem dX7_widthWith_6 : decode cX7_widthWith 6 = .ok (.aload_n 0, 1) := by decide +kernel
theorem dX7_widthWith_7 : decode cX7_widthWith 7 = .ok (.getfield 22, 3) := by decide +kernel
theorem dX7_widthWith_10 : decode cX7_widthWith 10 = .ok (.idiv, 1) := by decide +kernel
theorem dX7_widthWith_11 : decode cX7_widthWith 11 = .ok (.isub, 1) := by decide +kernel
theorem dX7_widthWith_12 : decode cX7_widthWith 12 = .ok (.invokestatic 25, 3) := by decide +kernel
theorem dX7_widthWith_15 : decode cX7_widthWith 15 = .ok (.ireturn, 1) := by decide +kernel
abbrev rm_X7_widthWith : Room := k2_rm 1 13
section
variable {p : Program} {l : Launch} {e : Env} {s : State} {m : MethodId} {args : Array Value} {below : List Frame} {meth : Method} {c : Code} {D : gD} {A : Nat → Prop} {ad : Nat → Nat} {S : Nat → Nat × Nat} {σ : Mem}
set_option maxRecDepth 100000 in
set_option maxHeartbeats 4000000 in
theorem w_X7_widthWith {i0 : Nat} {a1 : Int32} (hi0 : S i0 = (14, 0)) {r : Int32} (h : f_X7_widthWith σ i0 a1 = some r) : Met l yX7_widthWith (ws_ yX7_widthWith cX7_widthWith 2 (some .int)) rm_X7_widthWith (va_Pc [.ref (ad i0), .int a1] (PreG D (Ew D A) A ad S σ)) (QG D A ad S (some (.int r)) σ) 0 0 A := by
  refine y_met (by decide) (Nat.le_of_ble_eq_true rfl) (fun p e s m below meth c ls Z hS hl => ?_)
  have hx := Z.1
  have hb := Z.2.1
  have hown := Z.2.2.2.2.2.1
  have hts := Z.2.2.2.2.2.2.1
  unfold f_X7_widthWith at h
  refine lv_iconst (v := (0 : Int32)) hx hb dX7_widthWith_0 (by decide) ?_
  refine lv_aload_n hx hb dX7_widthWith_1 rfl (lv_at hl 0 rfl) ?_
  refine h_getI Z hS cls_4 hi0 (by decide) rfl fl_X7_19_4 dX7_widthWith_2 h (fun x1 h => ?_)
  refine lv_iload_n hx hb dX7_widthWith_5 rfl (lv_at hl 1 rfl) ?_
  refine lv_aload_n hx hb dX7_widthWith_6 rfl (lv_at hl 0 rfl) ?_
  refine h_getI Z hS cls_4 hi0 (by decide) rfl fl_X7_22_4 dX7_widthWith_7 h (fun x2 h => ?_)
  refine h_idiv Z dX7_widthWith_10 h (fun h => ?_)
  refine lv_isub hx hb dX7_widthWith_11 ?_
  refine y_imax hx hb (hl.1 ▸ Z.2.2.2.2.1) Z.2.2.2.2.2 q434 (by decide) (Nat.le_of_ble_eq_true rfl) (Nat.zero_le _) (Nat.zero_le _) dX7_widthWith_12 ?_
  exact h_iret Z hS dX7_widthWith_15 h
end
theorem dX7_width_0 : decode cX7_width 0 = .ok (.aload_n 0, 1) := by decide +kernel
theorem dX7_width_1 : decode cX7_width 1 = .ok (.aload_n 0, 1) := by decide +kernel
theorem dX7_width_2 : decode cX7_width 2 = .ok (.invokevirtual 31, 3) := by decide +kernel
theorem dX7_width_5 : decode cX7_width 5 = .ok (.invokevirtual 35, 3) := by decide +kernel
theorem dX7_width_8 : decode cX7_width 8 = .ok (.ireturn, 1) := by decide +kernel
abbrev rm_X7_width : Room := k2_rm 2 43
section
variable {p : Program} {l : Launch} {e : Env} {s : State} {m : MethodId} {args : Array Value} {below : List Frame} {meth : Method} {c : Code} {D : gD} {A : Nat → Prop} {ad : Nat → Nat} {S : Nat → Nat × Nat} {σ : Mem}
set_option maxRecDepth 100000 in
set_option maxHeartbeats 4000000 in
theorem w_X7_width {i0 : Nat} (hi0 : S i0 = (14, 0)) {r : Int32} (h : f_X7_width σ i0 = some r) : Met l yX7_width (ws_ yX7_width cX7_width 1 (some .int)) rm_X7_width (va_Pc [.ref (ad i0)] (PreG D (Ew D A) A ad S σ)) (QG D A ad S (some (.int r)) σ) 0 0 A := by
  refine y_met (by decide) (Nat.le_of_ble_eq_true rfl) (fun p e s m below meth c ls Z hS hl => ?_)
  have hx := Z.1
  have hb := Z.2.1
  have hown := Z.2.2.2.2.2.1
  have hts := Z.2.2.2.2.2.2.1
  unfold f_X7_width at h
  refine lv_aload_n hx hb dX7_width_0 rfl (lv_at hl 0 rfl) ?_
  refine lv_aload_n hx hb dX7_width_1 rfl (lv_at hl 0 rfl) ?_
  refine h_ci hS h (fun z hz => h_rD (rest := [.ref (ad i0)]) Z hS hi0 rfl vd_X7_31 (w_X19_all_4 hi0 hz) rfl rfl ⟨by decide, by decide⟩ rfl hl.1 rfl (Nat.le_of_ble_eq_true rfl) (Nat.zero_le _) (Nat.zero_le _) dX7_width_2) (fun x1 H locs hS h => ?_)
  refine h_ci hS h (fun z hz => h_rV (rest := []) Z hS hi0 rfl v_X7_35 (w_X7_widthWith hi0 hz) rfl rfl ⟨by decide, by decide⟩ rfl hl.1 rfl (Nat.le_of_ble_eq_true rfl) (Nat.zero_le _) (Nat.zero_le _) dX7_width_5) (fun x2 H locs hS h => ?_)
  exact h_iret Z hS dX7_width_8 h
end
theorem dX7_resistOf_0 : decode cX7_resistOf 0 = .ok (.iload_n 0, 1) := by decide +kernel
theorem dX7_resistOf_1 : decode cX7_resistOf 1 = .ok (.ifCond .ne 7, 3) := by decide +kernel
theorem dX7_resistOf_4 : decode cX7_resistOf 4 = .ok (.iconst (-1), 1) := by decide +kernel
theorem dX7_resistOf_5 : decode cX7_resistOf 5 = .ok (.goto 14, 3) := by decide +kernel
theorem dX7_resistOf_8 : decode cX7_resistOf 8 = .ok (.iconst 1, 1) := by decide +kernel
theorem dX7_resistOf_9 : decode cX7_resistOf 9 = .ok (.sipush 10000, 3) := by decide +kernel
theorem dX7_resistOf_12 : decode cX7_resistOf 12 = .ok (.iload_n 0, 1) := by decide +kernel
theorem dX7_resistOf_13 : decode cX7_resistOf 13 = .ok (.idiv, 1) := by decide +kernel
theorem dX7_resistOf_14 : decode cX7_resistOf 14 = .ok (.iload_n 0, 1) := by decide +kernel
theorem dX7_resistOf_15 : decode cX7_resistOf 15 = .ok (.idiv, 1) := by decide +kernel
theorem dX7_resistOf_16 : decode cX7_resistOf 16 = .ok (.invokestatic 25, 3) := by decide +kernel
theorem dX7_resistOf_19 : decode cX7_resistOf 19 = .ok (.ireturn, 1) := by decide +kernel
abbrev rm_X7_resistOf : Room := k2_rm 1 13
section
variable {p : Program} {l : Launch} {e : Env} {s : State} {m : MethodId} {args : Array Value} {below : List Frame} {meth : Method} {c : Code} {D : gD} {A : Nat → Prop} {ad : Nat → Nat} {S : Nat → Nat × Nat} {σ : Mem}
set_option maxRecDepth 100000 in
set_option maxHeartbeats 4000000 in
theorem w_X7_resistOf {a1 : Int32} {r : Int32} (h : f_X7_resistOf σ a1 = some r) : Met l yX7_resistOf (ws_ yX7_resistOf cX7_resistOf 1 (some .int)) rm_X7_resistOf (va_Pc [.int a1] (PreG D (Ew D A) A ad S σ)) (QG D A ad S (some (.int r)) σ) 0 0 A := by
  refine y_met (by decide) (Nat.le_of_ble_eq_true rfl) (fun p e s m below meth c ls Z hS hl => ?_)
  have hx := Z.1
  have hb := Z.2.1
  have hown := Z.2.2.2.2.2.1
  have hts := Z.2.2.2.2.2.2.1
  unfold f_X7_resistOf at h
  refine lv_iload_n hx hb dX7_resistOf_0 rfl (lv_at hl 0 rfl) ?_
  refine lv_if_ne (tgt := 8) hx hb dX7_resistOf_1 (by decide) (fun c1 => ?_) (fun c1 => ?_)
  · have h := if_f h c1
    refine lv_iconst (v := (1 : Int32)) hx hb dX7_resistOf_8 (by decide) ?_
    refine lv_sipush (v := (10000 : Int32)) hx hb dX7_resistOf_9 (by decide) ?_
    refine lv_iload_n hx hb dX7_resistOf_12 rfl (lv_at hl 0 rfl) ?_
    refine h_idiv Z dX7_resistOf_13 h (fun h => ?_)
    refine lv_iload_n hx hb dX7_resistOf_14 rfl (lv_at hl 0 rfl) ?_
    refine h_idiv Z dX7_resistOf_15 h (fun h => ?_)
    refine y_imax hx hb (hl.1 ▸ Z.2.2.2.2.1) Z.2.2.2.2.2 q434 (by decide) (Nat.le_of_ble_eq_true rfl) (Nat.zero_le _) (Nat.zero_le _) dX7_resistOf_16 ?_
    exact h_iret Z hS dX7_resistOf_19 h
  · have h := if_t h c1
    refine lv_iconst (v := (-1 : Int32)) hx hb dX7_resistOf_4 (by decide) ?_
    refine lv_goto (tgt := 19) hx hb dX7_resistOf_5 (by decide) ?_
    exact h_iret Z hS dX7_resistOf_19 h
end
theorem dX7_resist_0 : decode cX7_resist 0 = .ok (.aload_n 0, 1) := by decide +kernel
theorem dX7_resist_1 : decode cX7_resist 1 = .ok (.invokevirtual 39, 3) := by decide +kernel
theorem dX7_resist_4 : decode cX7_resist 4 = .ok (.invokestatic 42, 3) := by decide +kernel
theorem dX7_resist_7 : decode cX7_resist 7 = .ok (.ireturn, 1) := by decide +kernel
abbrev rm_X7_resist : Room := k2_rm 3 63
section
variable {p : Program} {l : Launch} {e : Env} {s : State} {m : MethodId} {args : Array Value} {below : List Frame} {meth : Method} {c : Code} {D : gD} {A : Nat → Prop} {ad : Nat → Nat} {S : Nat → Nat × Nat} {σ : Mem}
set_option maxRecDepth 100000 in
set_option maxHeartbeats 4000000 in
theorem w_X7_resist {i0 : Nat} (hi0 : S i0 = (14, 0)) {r : Int32} (h : f_X7_resist σ i0 = some r) : Met l yX7_resist (ws_ yX7_resist cX7_resist 1 (some .int)) rm_X7_resist (va_Pc [.ref (ad i0)] (PreG D (Ew D A) A ad S σ)) (QG D A ad S (some (.int r)) σ) 0 0 A := by
  refine y_met (by decide) (Nat.le_of_ble_eq_true rfl) (fun p e s m below meth c ls Z hS hl => ?_)
  have hx := Z.1
  have hb := Z.2.1
  have hown := Z.2.2.2.2.2.1
  have hts := Z.2.2.2.2.2.2.1
  unfold f_X7_resist at h
  refine lv_aload_n hx hb dX7_resist_0 rfl (lv_at hl 0 rfl) ?_
  refine h_ci hS h (fun z hz => h_rV (rest := []) Z hS hi0 rfl v_X7_39 (w_X7_width hi0 hz) rfl rfl ⟨by decide, by decide⟩ rfl hl.1 rfl (Nat.le_of_ble_eq_true rfl) (Nat.zero_le _) (Nat.zero_le _) dX7_resist_1) (fun x1 H locs hS h => ?_)
  refine h_ci hS h (fun z hz => h_rS (rest := []) Z hS v_X7_42 (w_X7_resistOf hz) rfl rfl ⟨by decide, by decide⟩ rfl hl.1 rfl (Nat.le_of_ble_eq_true rfl) (Nat.zero_le _) (Nat.zero_le _) dX7_resist_4) (fun x2 H locs hS h => ?_)
  exact h_iret Z hS dX7_resist_7 h
end
theorem dX1_celled_0 : decode cX1_celled 0 = .ok (.aload_n 0, 1) := by decide +kernel
theorem dX1_celled_1 : decode cX1_celled 1 = .ok (.iload_n 1, 1) := by decide +kernel
theorem dX1_celled_2 : decode cX1_celled 2 = .ok (.iload_n 2, 1) := by decide +kernel
theorem dX1_celled_3 : decode cX1_celled 3 = .ok (.invokevirtual 167, 3) := by decide +kernel
theorem dX1_celled_6 : decode cX1_celled 6 = .ok (.ifCond .ne 5, 3) := by decide +kernel
theorem dX1_celled_9 : decode cX1_celled 9 = .ok (.iconst (-1), 1) := by decide +kernel
theorem dX1_celled_10 : decode cX1_celled 10 = .ok (.ireturn, 1) := by decide +kernel
theorem dX1_celled_11 : decode cX1_celled 11 = .ok (.aload_n 0, 1) := by decide +kernel
theorem dX1_celled_12 : decode cX1_celled 12 = .ok (.getfield 24, 3) := by decide +kernel
theorem dX1_celled_15 : decode cX1_celled 15 = .ok (.iload_n 1, 1) := by decide +kernel
theorem dX1_celled_16 : decode cX1_celled 16 = .ok (.aaload, 1) := by decide +kernel
theorem dX1_celled_17 : decode cX1_celled 17 = .ok (.getfield 156, 3) := by decide +kernel
theorem dX1_celled_20 : decode cX1_celled 20 = .ok (.iload_n 2, 1) := by decide +kernel
theorem dX1_celled_21 : decode cX1_celled 21 = .ok (.aaload, 1) := by decide +kernel
theorem dX1_celled_22 : decode cX1_celled 22 = .ok (.astore 4, 2) := by decide +kernel
theorem dX1_celled_24 : decode cX1_celled 24 = .ok (.iload_n 3, 1) := by decide +kernel
theorem dX1_celled_25 : decode cX1_celled 25 = .ok (.tableswitch 65 0 4 #[35, 41, 47, 53, 59], 35) := by decide +kernel
theorem dX1_celled_60 : decode cX1_celled 60 = .ok (.aload 4, 2) := by decide +kernel
theorem dX1_celled_62 : decode cX1_celled 62 = .ok (.getfield 171, 3) := by decide +kernel
theorem dX1_celled_65 : decode cX1_celled 65 = .ok (.ireturn, 1) := by decide +kernel
theorem dX1_celled_66 : decode cX1_celled 66 = .ok (.aload 4, 2) := by decide +kernel
theorem dX1_celled_68 : decode cX1_celled 68 = .ok (.getfield 174, 3) := by decide +kernel
theorem dX1_celled_71 : decode cX1_celled 71 = .ok (.ireturn, 1) := by decide +kernel
theorem dX1_celled_72 : decode cX1_celled 72 = .ok (.aload 4, 2) := by decide +kernel
theorem dX1_celled_74 : decode cX1_celled 74 = .ok (.invokevirtual 177, 3) := by decide +kernel
theorem dX1_celled_77 : decode cX1_celled 77 = .ok (.ireturn, 1) := by decide +kernel
theorem dX1_celled_78 : decode cX1_celled 78 = .ok (.aload 4, 2) := by decide +kernel
theorem dX1_celled_80 : decode cX1_celled 80 = .ok (.invokevirtual 181, 3) := by decide +kernel
theorem dX1_celled_83 : decode cX1_celled 83 = .ok (.ireturn, 1) := by decide +kernel
theorem dX1_celled_84 : decode cX1_celled 84 = .ok (.aload 4, 2) := by decide +kernel
theorem dX1_celled_86 : decode cX1_celled 86 = .ok (.invokevirtual 184, 3) := by decide +kernel
theorem dX1_celled_89 : decode cX1_celled 89 = .ok (.ireturn, 1) := by decide +kernel
theorem dX1_celled_90 : decode cX1_celled 90 = .ok (.iconst (-1), 1) := by decide +kernel
theorem dX1_celled_91 : decode cX1_celled 91 = .ok (.ireturn, 1) := by decide +kernel
abbrev rm_X1_celled : Room := k2_rm 4 83
section
variable {p : Program} {l : Launch} {e : Env} {s : State} {m : MethodId} {args : Array Value} {below : List Frame} {meth : Method} {c : Code} {D : gD} {A : Nat → Prop} {ad : Nat → Nat} {S : Nat → Nat × Nat} {σ : Mem}
set_option maxRecDepth 100000 in
set_option maxHeartbeats 4000000 in
theorem w_X1_celled {a1 : Int32} {a2 : Int32} {a3 : Int32} (hi0 : S 0 = (10, 0)) {r : Int32} (h : f_X1_celled σ a1 a2 a3 = some r) : Met l yX1_celled (ws_ yX1_celled cX1_celled 5 (some .int)) rm_X1_celled (va_Pc [.ref (ad 0), .int a1, .int a2, .int a3] (PreG D (Ew D A) A ad S σ)) (QG D A ad S (some (.int r)) σ) 0 0 A := by
  refine y_met (by decide) (Nat.le_of_ble_eq_true rfl) (fun p e s m below meth c ls Z hS hl => ?_)
  have hx := Z.1
  have hb := Z.2.1
  have hown := Z.2.2.2.2.2.1
  have hts := Z.2.2.2.2.2.2.1
  unfold f_X1_celled at h
  refine lv_aload_n hx hb dX1_celled_0 rfl (lv_at hl 0 rfl) ?_
  refine lv_iload_n hx hb dX1_celled_1 rfl (lv_at hl 1 rfl) ?_
  refine lv_iload_n hx hb dX1_celled_2 rfl (lv_at hl 2 rfl) ?_
  refine h_ci hS h (fun z hz => h_rV (rest := []) Z hS hi0 rfl v_X1_167 (w_X1_isCell hi0 hz) rfl rfl ⟨by decide, by decide⟩ rfl hl.1 rfl (Nat.le_of_ble_eq_true rfl) (Nat.zero_le _) (Nat.zero_le _) dX1_celled_3) (fun x1 H locs hS h => ?_)
  refine lv_if_ne (tgt := 11) hx hb dX1_celled_6 (by decide) (fun c2 => ?_) (fun c2 => ?_)
  · have h := if_f h c2
    refine lv_aload_n hx hb dX1_celled_11 rfl (lv_at hl 0 rfl) ?_
    refine h_getC (n := 3) (j := 3) (sh := (5, 8)) Z hS cls_0 hi0 (by decide) rfl rfl rfl fl_X1_24_0 dX1_celled_12 (fun hc3 => ?_)
    refine lv_iload_n hx hb dX1_celled_15 rfl (lv_at hl 1 rfl) ?_
    refine h_aldN (sh := (12, 0)) Z hS hc3 (by decide) (by decide) rfl dX1_celled_16 h (fun j4 hj4 h => ?_)
    refine h_getC (n := 1) (j := (j4 + 1)) (sh := (6, 10)) Z hS cls_2 hj4 (by decide) rfl rfl rfl fl_X1_156_2 dX1_celled_17 (fun hc5 => ?_)
    refine lv_iload_n hx hb dX1_celled_20 rfl (lv_at hl 2 rfl) ?_
    refine h_aldN (sh := (14, 0)) Z hS hc5 (by decide) (by decide) rfl dX1_celled_21 h (fun j6 hj6 h => ?_)
    refine lv_astore (lv' := [(4, .ref (ad j6)), (0, .ref (ad 0)), (1, .int a1), (2, .int a2), (3, .int a3)]) hx hb dX1_celled_22 hl (by decide) rfl (fun ls hl => ?_)
    refine lv_iload_n hx hb dX1_celled_24 rfl (lv_at hl 4 rfl) ?_
    by_cases c7_0 : a3 = (0 : Int32)
    · refine h_tsw (k := (0 : Int32)) (off := 35) (tgt := 60) Z dX1_celled_25 c7_0 (by decide) (by decide) rfl (by decide) ?_
      have h := if_t h c7_0
      refine lv_aload hx hb dX1_celled_60 (lv_at hl 0 rfl) ?_
      refine h_getI Z hS cls_4 hj6 (by decide) rfl fl_X1_171_4 dX1_celled_62 h (fun x8 h => ?_)
      exact h_iret Z hS dX1_celled_65 h
    replace h := if_f h c7_0
    by_cases c7_1 : a3 = (1 : Int32)
    · refine h_tsw (k := (1 : Int32)) (off := 41) (tgt := 66) Z dX1_celled_25 c7_1 (by decide) (by decide) rfl (by decide) ?_
      have h := if_t h c7_1
      refine lv_aload hx hb dX1_celled_66 (lv_at hl 0 rfl) ?_
      refine h_getI Z hS cls_4 hj6 (by decide) rfl fl_X1_174_4 dX1_celled_68 h (fun x9 h => ?_)
      exact h_iret Z hS dX1_celled_71 h
    replace h := if_f h c7_1
    by_cases c7_2 : a3 = (2 : Int32)
    · refine h_tsw (k := (2 : Int32)) (off := 47) (tgt := 72) Z dX1_celled_25 c7_2 (by decide) (by decide) rfl (by decide) ?_
      have h := if_t h c7_2
      refine lv_aload hx hb dX1_celled_72 (lv_at hl 0 rfl) ?_
      refine h_ci hS h (fun z hz => h_rV (rest := []) Z hS hj6 rfl v_X1_177 (w_X7_width hj6 hz) rfl rfl ⟨by decide, by decide⟩ rfl hl.1 rfl (Nat.le_of_ble_eq_true rfl) (Nat.zero_le _) (Nat.zero_le _) dX1_celled_74) (fun x10 H locs hS h => ?_)
      exact h_iret Z hS dX1_celled_77 h
    replace h := if_f h c7_2
    by_cases c7_3 : a3 = (3 : Int32)
    · refine h_tsw (k := (3 : Int32)) (off := 53) (tgt := 78) Z dX1_celled_25 c7_3 (by decide) (by decide) rfl (by decide) ?_
      have h := if_t h c7_3
      refine lv_aload hx hb dX1_celled_78 (lv_at hl 0 rfl) ?_
      refine h_ci hS h (fun z hz => h_rV (rest := []) Z hS hj6 rfl v_X1_181 (w_X7_resist hj6 hz) rfl rfl ⟨by decide, by decide⟩ rfl hl.1 rfl (Nat.le_of_ble_eq_true rfl) (Nat.zero_le _) (Nat.zero_le _) dX1_celled_80) (fun x11 H locs hS h => ?_)
      exact h_iret Z hS dX1_celled_83 h
    replace h := if_f h c7_3
    by_cases c7_4 : a3 = (4 : Int32)
    · refine h_tsw (k := (4 : Int32)) (off := 59) (tgt := 84) Z dX1_celled_25 c7_4 (by decide) (by decide) rfl (by decide) ?_
      have h := if_t h c7_4
      refine lv_aload hx hb dX1_celled_84 (lv_at hl 0 rfl) ?_
      refine h_ci hS h (fun z hz => h_rD (rest := []) Z hS hj6 rfl vd_X1_184 (w_X19_all_4 hj6 hz) rfl rfl ⟨by decide, by decide⟩ rfl hl.1 rfl (Nat.le_of_ble_eq_true rfl) (Nat.zero_le _) (Nat.zero_le _) dX1_celled_86) (fun x12 H locs hS h => ?_)
      exact h_iret Z hS dX1_celled_89 h
    replace h := if_f h c7_4
    refine h_tswd (n := 4) (tgt := 90) Z dX1_celled_25 (by decide) (fun t ht => ?_) (by decide) ?_
    · rcases (show t = 0 ∨ t = 1 ∨ t = 2 ∨ t = 3 ∨ t = 4 by omega) with rfl | rfl | rfl | rfl | rfl
      · exact Or.inr (ne_int c7_0 (by decide))
      · exact Or.inr (ne_int c7_1 (by decide))
      · exact Or.inr (ne_int c7_2 (by decide))
      · exact Or.inr (ne_int c7_3 (by decide))
      · exact Or.inr (ne_int c7_4 (by decide))
    refine lv_iconst (v := (-1 : Int32)) hx hb dX1_celled_90 (by decide) ?_
    exact h_iret Z hS dX1_celled_91 h
  · have h := if_t h c2
    refine lv_iconst (v := (-1 : Int32)) hx hb dX1_celled_9 (by decide) ?_
    exact h_iret Z hS dX1_celled_10 h
end
theorem dX1_held_0 : decode cX1_held 0 = .ok (.aload_n 0, 1) := by decide +kernel
theorem dX1_held_1 : decode cX1_held 1 = .ok (.iload_n 1, 1) := by decide +kernel
theorem dX1_held_2 : decode cX1_held 2 = .ok (.iload_n 2, 1) := by decide +kernel
theorem dX1_held_3 : decode cX1_held 3 = .ok (.invokevirtual 167, 3) := by decide +kernel
theorem dX1_held_6 : decode cX1_held 6 = .ok (.ifCond .eq 21, 3) := by decide +kernel
theorem dX1_held_9 : decode cX1_held 9 = .ok (.iload_n 3, 1) := by decide +kernel
theorem dX1_held_10 : decode cX1_held 10 = .ok (.invokestatic 132, 3) := by decide +kernel
theorem dX1_held_13 : decode cX1_held 13 = .ok (.ifCond .eq 14, 3) := by decide +kernel
theorem dX1_held_16 : decode cX1_held 16 = .ok (.iload 4, 2) := by decide +kernel
theorem dX1_held_18 : decode cX1_held 18 = .ok (.i2l, 1) := by decide +kernel
theorem dX1_held_19 : decode cX1_held 19 = .ok (.lconst 0, 1) := by decide +kernel
theorem dX1_held_20 : decode cX1_held 20 = .ok (.lconst 1, 1) := by decide +kernel
theorem dX1_held_21 : decode cX1_held 21 = .ok (.invokestatic 5, 3) := by decide +kernel
theorem dX1_held_24 : decode cX1_held 24 = .ok (.ifCond .ne 5, 3) := by decide +kernel
theorem dX1_held_27 : decode cX1_held 27 = .ok (.iconst (-1), 1) := by decide +kernel
theorem dX1_held_28 : decode cX1_held 28 = .ok (.ireturn, 1) := by decide +kernel
theorem dX1_held_29 : decode cX1_held 29 = .ok (.aload_n 0, 1) := by decide +kernel
theorem dX1_held_30 : decode cX1_held 30 = .ok (.getfield 24, 3) := by decide +kernel
theorem dX1_held_33 : decode cX1_held 33 = .ok (.iload_n 1, 1) := by decide +kernel
theorem dX1_held_34 : decode cX1_held 34 = .ok (.aaload, 1) := by decide +kernel
theorem dX1_held_35 : decode cX1_held 35 = .ok (.getfield 156, 3) := by decide +kernel
theorem dX1_held_38 : decode cX1_held 38 = .ok (.iload_n 2, 1) := by decide +kernel
theorem dX1_held_39 : decode cX1_held 39 = .ok (.aaload, 1) := by decide +kernel
theorem dX1_held_40 : decode cX1_held 40 = .ok (.astore 5, 2) := by decide +kernel
theorem dX1_held_42 : decode cX1_held 42 = .ok (.iload 4, 2) := by decide +kernel
theorem dX1_held_44 : decode cX1_held 44 = .ok (.ifCond .ne 13, 3) := by decide +kernel
theorem dX1_held_47 : decode cX1_held 47 = .ok (.aload 5, 2) := by decide +kernel
theorem dX1_held_49 : decode cX1_held 49 = .ok (.getfield 187, 3) := by decide +kernel
theorem dX1_held_52 : decode cX1_held 52 = .ok (.iload_n 3, 1) := by decide +kernel
theorem dX1_held_53 : decode cX1_held 53 = .ok (.iaload, 1) := by decide +kernel
theorem dX1_held_54 : decode cX1_held 54 = .ok (.goto 10, 3) := by decide +kernel
theorem dX1_held_57 : decode cX1_held 57 = .ok (.aload 5, 2) := by decide +kernel
theorem dX1_held_59 : decode cX1_held 59 = .ok (.getfield 190, 3) := by decide +kernel
theorem dX1_held_62 : decode cX1_held 62 = .ok (.iload_n 3, 1) := by decide +kernel
theorem dX1_held_63 : decode cX1_held 63 = .ok (.iaload, 1) := by decide +kernel
theorem dX1_held_64 : decode cX1_held 64 = .ok (.ireturn, 1) := by decide +kernel
abbrev rm_X1_held : Room := k2_rm 2 47
section
variable {p : Program} {l : Launch} {e : Env} {s : State} {m : MethodId} {args : Array Value} {below : List Frame} {meth : Method} {c : Code} {D : gD} {A : Nat → Prop} {ad : Nat → Nat} {S : Nat → Nat × Nat} {σ : Mem}
set_option maxRecDepth 100000 in
set_option maxHeartbeats 4000000 in
theorem w_X1_held {a1 : Int32} {a2 : Int32} {a3 : Int32} {a4 : Int32} (hi0 : S 0 = (10, 0)) {r : Int32} (h : f_X1_held σ a1 a2 a3 a4 = some r) : Met l yX1_held (ws_ yX1_held cX1_held 6 (some .int)) rm_X1_held (va_Pc [.ref (ad 0), .int a1, .int a2, .int a3, .int a4] (PreG D (Ew D A) A ad S σ)) (QG D A ad S (some (.int r)) σ) 0 0 A := by
  refine y_met (by decide) (Nat.le_of_ble_eq_true rfl) (fun p e s m below meth c ls Z hS hl => ?_)
  have hx := Z.1
  have hb := Z.2.1
  have hown := Z.2.2.2.2.2.1
  have hts := Z.2.2.2.2.2.2.1
  unfold f_X1_held at h
  refine lv_aload_n hx hb dX1_held_0 rfl (lv_at hl 0 rfl) ?_
  refine lv_iload_n hx hb dX1_held_1 rfl (lv_at hl 1 rfl) ?_
  refine lv_iload_n hx hb dX1_held_2 rfl (lv_at hl 2 rfl) ?_
  refine h_ci hS h (fun z hz => h_rV (rest := []) Z hS hi0 rfl v_X1_167 (w_X1_isCell hi0 hz) rfl rfl ⟨by decide, by decide⟩ rfl hl.1 rfl (Nat.le_of_ble_eq_true rfl) (Nat.zero_le _) (Nat.zero_le _) dX1_held_3) (fun x1 H locs hS h => ?_)
  refine lv_if_eq (tgt := 27) hx hb dX1_held_6 (by decide) (fun c2 => ?_) (fun c2 => ?_)
  · have h := if_t h c2
    refine lv_iconst (v := (-1 : Int32)) hx hb dX1_held_27 (by decide) ?_
    exact h_iret Z hS dX1_held_28 h
  · have h := if_f h c2
    refine lv_iload_n hx hb dX1_held_9 rfl (lv_at hl 3 rfl) ?_
    refine h_ci hS h (fun z hz => h_rS (rest := []) Z hS v_X1_132 (w_X1_isSize hz) rfl rfl ⟨by decide, by decide⟩ rfl hl.1 rfl (Nat.le_of_ble_eq_true rfl) (Nat.zero_le _) (Nat.zero_le _) dX1_held_10) (fun x3 H locs hS h => ?_)
    refine lv_if_eq (tgt := 27) hx hb dX1_held_13 (by decide) (fun c4 => ?_) (fun c4 => ?_)
    · have h := if_t h c4
      refine lv_iconst (v := (-1 : Int32)) hx hb dX1_held_27 (by decide) ?_
      exact h_iret Z hS dX1_held_28 h
    · have h := if_f h c4
      refine lv_iload hx hb dX1_held_16 (lv_at hl 4 rfl) ?_
      refine lv_i2l hx hb dX1_held_18 rfl ?_
      refine lv_lconst (v := (0 : Int64)) hx hb dX1_held_19 (by decide) ?_
      refine lv_lconst (v := (1 : Int64)) hx hb dX1_held_20 (by decide) ?_
      refine h_ci hS h (fun z hz => h_rS (rest := []) Z hS v_X1_5 (w_X1_isIn hz) rfl rfl ⟨by decide, by decide⟩ rfl hl.1 rfl (Nat.le_of_ble_eq_true rfl) (Nat.zero_le _) (Nat.zero_le _) dX1_held_21) (fun x5 H locs hS h => ?_)
      refine lv_if_ne (tgt := 29) hx hb dX1_held_24 (by decide) (fun c6 => ?_) (fun c6 => ?_)
      · have h := if_f h c6
        refine lv_aload_n hx hb dX1_held_29 rfl (lv_at hl 0 rfl) ?_
        refine h_getC (n := 3) (j := 3) (sh := (5, 8)) Z hS cls_0 hi0 (by decide) rfl rfl rfl fl_X1_24_0 dX1_held_30 (fun hc7 => ?_)
        refine lv_iload_n hx hb dX1_held_33 rfl (lv_at hl 1 rfl) ?_
        refine h_aldN (sh := (12, 0)) Z hS hc7 (by decide) (by decide) rfl dX1_held_34 h (fun j8 hj8 h => ?_)
        refine h_getC (n := 1) (j := (j8 + 1)) (sh := (6, 10)) Z hS cls_2 hj8 (by decide) rfl rfl rfl fl_X1_156_2 dX1_held_35 (fun hc9 => ?_)
        refine lv_iload_n hx hb dX1_held_38 rfl (lv_at hl 2 rfl) ?_
        refine h_aldN (sh := (14, 0)) Z hS hc9 (by decide) (by decide) rfl dX1_held_39 h (fun j10 hj10 h => ?_)
        refine lv_astore (lv' := [(5, .ref (ad j10)), (0, .ref (ad 0)), (1, .int a1), (2, .int a2), (3, .int a3), (4, .int a4)]) hx hb dX1_held_40 hl (by decide) rfl (fun ls hl => ?_)
        refine lv_iload hx hb dX1_held_42 (lv_at hl 5 rfl) ?_
        refine lv_if_ne (tgt := 57) hx hb dX1_held_44 (by decide) (fun c11 => ?_) (fun c11 => ?_)
        · have h := if_f h c11
          refine lv_aload hx hb dX1_held_57 (lv_at hl 0 rfl) ?_
          refine h_getC (n := 2) (j := (j10 + 2)) (sh := (1, 8)) Z hS cls_4 hj10 (by decide) rfl rfl rfl fl_X1_190_4 dX1_held_59 (fun hc14 => ?_)
          refine lv_iload_n hx hb dX1_held_62 rfl (lv_at hl 4 rfl) ?_
          refine h_iald Z hS hc14 dX1_held_63 h (fun x15 h => ?_)
          exact h_iret Z hS dX1_held_64 h
        · have h := if_t h c11
          refine lv_aload hx hb dX1_held_47 (lv_at hl 0 rfl) ?_
          refine h_getC (n := 1) (j := (j10 + 1)) (sh := (1, 8)) Z hS cls_4 hj10 (by decide) rfl rfl rfl fl_X1_187_4 dX1_held_49 (fun hc12 => ?_)
          refine lv_iload_n hx hb dX1_held_52 rfl (lv_at hl 4 rfl) ?_
          refine h_iald Z hS hc12 dX1_held_53 h (fun x13 h => ?_)
          refine lv_goto (tgt := 64) hx hb dX1_held_54 (by decide) ?_
          exact h_iret Z hS dX1_held_64 h
      · have h := if_t h c6
        refine lv_iconst (v := (-1 : Int32)) hx hb dX1_held_27 (by decide) ?_
        exact h_iret Z hS dX1_held_28 h
end
