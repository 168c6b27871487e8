set_option maxRecDepth 100000
theorem dX13_add_0 : decode cX13_add 0 = .ok (.new 13, 3) := by decide +kernel
theorem dX13_add_3 : decode cX13_add 3 = .ok (.dup, 1) := by decide +kernel
theorem dX13_add_4 : decode cX13_add 4 = .ok (.iload_n 1, 1) := by decide +kernel
theorem dX13_add_5 : decode cX13_add 5 = .ok (.aload_n 2, 1) := by decide +kernel
theorem dX13_add_6 : decode cX13_add 6 = .ok (.invokespecial 15, 3) := by decide +kernel
theorem dX13_add_9 : decode cX13_add 9 = .ok (.astore_n 3, 1) := by decide +kernel
theorem dX13_add_10 : decode cX13_add 10 = .ok (.aload_n 0, 1) := by decide +kernel
theorem dX13_add_11 : decode cX13_add 11 = .ok (.getfield 18, 3) := by decide +kernel
theorem dX13_add_14 : decode cX13_add 14 = .ok (.ifnonnull 11, 3) := by decide +kernel
theorem dX13_add_17 : decode cX13_add 17 = .ok (.aload_n 0, 1) := by decide +kernel
theorem dX13_add_18 : decode cX13_add 18 = .ok (.aload_n 3, 1) := by decide +kernel
theorem dX13_add_19 : decode cX13_add 19 = .ok (.putfield 18, 3) := by decide +kernel
theorem dX13_add_22 : decode cX13_add 22 = .ok (.goto 11, 3) := by decide +kernel
theorem dX13_add_25 : decode cX13_add 25 = .ok (.aload_n 0, 1) := by decide +kernel
theorem dX13_add_26 : decode cX13_add 26 = .ok (.getfield 22, 3) := by decide +kernel
theorem dX13_add_29 : decode cX13_add 29 = .ok (.aload_n 3, 1) := by decide +kernel
theorem dX13_add_30 : decode cX13_add 30 = .ok (.putfield 25, 3) := by decide +kernel
theorem dX13_add_33 : decode cX13_add 33 = .ok (.aload_n 0, 1) := by decide +kernel
theorem dX13_add_34 : decode cX13_add 34 = .ok (.aload_n 3, 1) := by decide +kernel
theorem dX13_add_35 : decode cX13_add 35 = .ok (.putfield 22, 3) := by decide +kernel
theorem dX13_add_38 : decode cX13_add 38 = .ok (.return_, 1) := by decide +kernel
section
variable {p : Program} {l : Launch} {e : Env} {s : State} {m : MethodId} {args : Array Value} {below : List Frame} {meth : Method} {c : Code} {D : gD} {A : Nat → Prop} {ad : Nat → Nat} {τ : Shp} {σ : Mem}
set_option maxRecDepth 100000 in
set_option maxHeartbeats 4000000 in
theorem w_X13_add {i0 : Nat} {a1 : Int32} {a2 : Nat} (hc0 : sC τ ≤ LCl) (hs0 : sL τ ≤ LSl) (hi0 : sS τ i0 = (18, 0)) (ha2 : sS τ a2 ∈ [(18, 0), (19, 0), (20, 0)]) {r : (Rs Unit)} (h : f_X13_add σ τ i0 a1 a2 = some r) : Mg l yX13_add (ws_ yX13_add cX13_add 4 none) (rmA 2 34 τ) (va_Pc [.ref (ad i0), .int a1, .ref (ad a2)] (PreG D (Ew D A) A ad (sS τ) σ)) (QR D A ad τ vU r) A := by
  refine a_met hc0 hs0 (by decide) (Nat.le_of_ble_eq_true rfl) (fun p e s m args below meth c ls Z hnm hex hS B G hl => ?_)
  have hx := Z.1
  have hb := Z.2.1
  have hown := Z.2.2.2.2.2.1
  have hts := Z.2.2.2.2.2.2.1
  refine (?_ : ∀ cl sl, Bd (sC τ) (sL τ) (rmA 2 34 τ) τ cl sl → W p l e (rmA 2 34 τ) s m args below meth c s.heap [] cl sl (GQ below (QR D A ad τ vU r) args s A) (F0 m 0 ls [])) 0 0 B
  clear B
  intro cl sl B
  unfold f_X13_add at h
  refine a_newD Z hS B cls_11 dv_11 nc_11 q794 q795 q100 dX13_add_0 h (fun ad1 σ1 τ1 j2 H ga gb gc hj2 hS B h => ?_)
  have g1 : Gx τ ad τ1 ad1 := ⟨ga, gb, gc⟩
  have G := G.trans g1
  generalize cl + 1 = cl at B ⊢
  generalize sl + 3 = sl at B ⊢
  have ea3 := g1.ad hi0
  replace hi0 := g1.sh hi0
  have ea4 := g1.adm ha2 (by decide)
  replace ha2 := g1.shm ha2 (by decide)
  replace hl : lv_has ls 4 [(0, .ref (ad1 i0)), (1, .int a1), (2, .ref (ad1 a2))] := by rw [ea3, ea4]; exact hl
  refine lv_dup hx hb dX13_add_3 rfl ?_
  refine lv_iload_n hx hb dX13_add_4 rfl (lv_at hl 1 rfl) ?_
  refine lv_aload_n hx hb dX13_add_5 rfl (lv_at hl 2 rfl) ?_
  refine h_cm hS h (fun z hz => h_rI (rest := [.ref (ad1 j2)]) Z hS vc_X13_15 (w_X16_init hj2 ha2 hz) rfl rfl ⟨Nat.le_of_ble_eq_true rfl, Nat.le_of_ble_eq_true rfl⟩ rfl hl.1 rfl (Nat.le_of_ble_eq_true rfl) B.cl B.sl dX13_add_6) (fun σ5 H locs hS h => ?_)
  refine lv_astore_n (lv' := [(3, .ref (ad1 j2)), (0, .ref (ad1 i0)), (1, .int a1), (2, .ref (ad1 a2))]) hx hb dX13_add_9 rfl hl (by decide) rfl (fun ls hl => ?_)
  refine lv_aload_n hx hb dX13_add_10 rfl (lv_at hl 1 rfl) ?_
  refine h_getQ Z hS cls_8 hi0 (by decide) rfl fl_X13_18_8 dX13_add_11 h (fun o6 ho6 h => ?_)
  obtain ⟨σ8, hp9, h⟩ := bnd_el h
  have K9 : ∀ (H : Heap) (locs : List Loc) (ls : Array Slot), St D A ad1 (sS τ1) σ8 s.heap H locs → lv_has ls 4 [(0, .ref (ad1 i0)), (3, .ref (ad1 j2))] → W p l e (rmA 2 34 τ) s m args below meth c H locs cl sl (GQ below (QR D A ad τ vU r) args s A) (F0 m 33 ls []) := by
    intro H locs ls hS hl
    refine lv_aload_n hx hb dX13_add_33 rfl (lv_at hl 0 rfl) ?_
    refine lv_aload_n hx hb dX13_add_34 rfl (lv_at hl 1 rfl) ?_
    refine h_putR (v := (some j2)) Z hS cls_8 hi0 (by decide) rfl rfl rfl rfl (fun t ht => by cases ht; rw [hj2]; decide) fl_X13_22_8 dX13_add_35 h (fun σ10 H locs hS h => ?_)
    exact a_vret Z hS B G dX13_add_38 h
  clear h
  have h := hp9
  clear hp9
  refine h_ifnonnull (o := o6) (tgt := 25) Z dX13_add_14 (by decide) (fun eo6 => ?_) (fun j7 eo6 => ?_)
  · subst eo6
    refine lv_aload_n hx hb dX13_add_17 rfl (lv_at hl 1 rfl) ?_
    refine lv_aload_n hx hb dX13_add_18 rfl (lv_at hl 0 rfl) ?_
    refine h_putR (v := (some j2)) Z hS cls_8 hi0 (by decide) rfl rfl rfl rfl (fun t ht => by cases ht; rw [hj2]; decide) fl_X13_18_8 dX13_add_19 h (fun σ11 H locs hS h => ?_)
    refine lv_goto (tgt := 33) hx hb dX13_add_22 (by decide) ?_
    cases h
    exact K9 _ _ _ hS (lv_sub hl [1, 0] rfl)
  · subst eo6
    have hj7 := ho6 j7 rfl
    replace hj7 : (sS τ1) j7 = (21, 0) := List.mem_singleton.mp hj7
    refine lv_aload_n hx hb dX13_add_25 rfl (lv_at hl 1 rfl) ?_
    refine h_getN (sh := (21, 0)) Z hS cls_8 hi0 (by decide) rfl rfl fl_X13_22_8 dX13_add_26 h (fun j12 hj12 h => ?_)
    refine lv_aload_n hx hb dX13_add_29 rfl (lv_at hl 0 rfl) ?_
    refine h_putR (v := (some j2)) Z hS cls_11 hj12 (by decide) rfl rfl rfl rfl (fun t ht => by cases ht; rw [hj2]; decide) fl_X13_25_11 dX13_add_30 h (fun σ13 H locs hS h => ?_)
    cases h
    exact K9 _ _ _ hS (lv_sub hl [1, 0] rfl)
end
theorem dX8_take_0 : decode cX8_take 0 = .ok (.iload_n 1, 1) := by decide +kernel
theorem dX8_take_1 : decode cX8_take 1 = .ok (.ifCond .ne 15, 3) := by decide +kernel
theorem dX8_take_4 : decode cX8_take 4 = .ok (.new 22, 3) := by decide +kernel
theorem dX8_take_7 : decode cX8_take 7 = .ok (.dup, 1) := by decide +kernel
theorem dX8_take_8 : decode cX8_take 8 = .ok (.aload_n 0, 1) := by decide +kernel
theorem dX8_take_9 : decode cX8_take 9 = .ok (.getfield 19, 3) := by decide +kernel
theorem dX8_take_12 : decode cX8_take 12 = .ok (.invokespecial 24, 3) := by decide +kernel
theorem dX8_take_15 : decode cX8_take 15 = .ok (.athrow, 1) := by decide +kernel
theorem dX8_take_16 : decode cX8_take 16 = .ok (.aload_n 0, 1) := by decide +kernel
theorem dX8_take_17 : decode cX8_take 17 = .ok (.dup, 1) := by decide +kernel
theorem dX8_take_18 : decode cX8_take 18 = .ok (.getfield 19, 3) := by decide +kernel
theorem dX8_take_21 : decode cX8_take 21 = .ok (.iconst 1, 1) := by decide +kernel
theorem dX8_take_22 : decode cX8_take 22 = .ok (.iadd, 1) := by decide +kernel
theorem dX8_take_23 : decode cX8_take 23 = .ok (.putfield 19, 3) := by decide +kernel
theorem dX8_take_26 : decode cX8_take 26 = .ok (.aload_n 0, 1) := by decide +kernel
theorem dX8_take_27 : decode cX8_take 27 = .ok (.getfield 9, 3) := by decide +kernel
theorem dX8_take_30 : decode cX8_take 30 = .ok (.aload_n 0, 1) := by decide +kernel
theorem dX8_take_31 : decode cX8_take 31 = .ok (.getfield 19, 3) := by decide +kernel
theorem dX8_take_34 : decode cX8_take 34 = .ok (.iconst 1, 1) := by decide +kernel
theorem dX8_take_35 : decode cX8_take 35 = .ok (.isub, 1) := by decide +kernel
theorem dX8_take_36 : decode cX8_take 36 = .ok (.baload, 1) := by decide +kernel
theorem dX8_take_37 : decode cX8_take 37 = .ok (.ireturn, 1) := by decide +kernel
section
variable {p : Program} {l : Launch} {e : Env} {s : State} {m : MethodId} {args : Array Value} {below : List Frame} {meth : Method} {c : Code} {D : gD} {A : Nat → Prop} {ad : Nat → Nat} {τ : Shp} {σ : Mem}
set_option maxRecDepth 100000 in
set_option maxHeartbeats 4000000 in
theorem w_X8_take {i0 : Nat} {a1 : Int32} (hc0 : sC τ ≤ LCl) (hs0 : sL τ ≤ LSl) (hi0 : sS τ i0 = (15, 0)) {r : (Rs Int32)} (h : f_X8_take σ τ i0 a1 = some r) : Mg l yX8_take (ws_ yX8_take cX8_take 2 (some .int)) (rmA 8 200 τ) (va_Pc [.ref (ad i0), .int a1] (PreG D (Ew D A) A ad (sS τ) σ)) (QR D A ad τ vI r) A := by
  refine a_met hc0 hs0 (by decide) (Nat.le_of_ble_eq_true rfl) (fun p e s m args below meth c ls Z hnm hex hS B G hl => ?_)
  have hx := Z.1
  have hb := Z.2.1
  have hown := Z.2.2.2.2.2.1
  have hts := Z.2.2.2.2.2.2.1
  refine (?_ : ∀ cl sl, Bd (sC τ) (sL τ) (rmA 8 200 τ) τ cl sl → W p l e (rmA 8 200 τ) s m args below meth c s.heap [] cl sl (GQ below (QR D A ad τ vI r) args s A) (F0 m 0 ls [])) 0 0 B
  clear B
  intro cl sl B
  unfold f_X8_take at h
  refine lv_iload_n hx hb dX8_take_0 rfl (lv_at hl 1 rfl) ?_
  refine lv_if_ne (tgt := 16) hx hb dX8_take_1 (by decide) (fun c1 => ?_) (fun c1 => ?_)
  · have h := if_f h c1
    refine lv_aload_n hx hb dX8_take_16 rfl (lv_at hl 0 rfl) ?_
    refine lv_dup hx hb dX8_take_17 rfl ?_
    refine h_getI Z hS cls_5 hi0 (by decide) rfl fl_X8_19_5 dX8_take_18 h (fun x3 h => ?_)
    refine lv_iconst (v := (1 : Int32)) hx hb dX8_take_21 (by decide) ?_
    refine lv_iadd hx hb dX8_take_22 ?_
    refine h_putI Z hS cls_5 hi0 (by decide) rfl rfl rfl fl_X8_19_5 dX8_take_23 h (fun σ4 H locs hS h => ?_)
    refine lv_aload_n hx hb dX8_take_26 rfl (lv_at hl 0 rfl) ?_
    refine h_getN (sh := (2, 160)) Z hS cls_5 hi0 (by decide) rfl rfl fl_X8_9_5 dX8_take_27 h (fun j5 hj5 h => ?_)
    refine lv_aload_n hx hb dX8_take_30 rfl (lv_at hl 0 rfl) ?_
    refine h_getI Z hS cls_5 hi0 (by decide) rfl fl_X8_19_5 dX8_take_31 h (fun x6 h => ?_)
    refine lv_iconst (v := (1 : Int32)) hx hb dX8_take_34 (by decide) ?_
    refine lv_isub hx hb dX8_take_35 ?_
    refine h_bald Z hS hj5 dX8_take_36 h (fun x7 h => ?_)
    exact a_iret Z hS B G dX8_take_37 h
  · have h := if_t h c1
    exact a_throwW Z hex hS B G (Nat.le_of_ble_eq_true rfl) (Nat.le_of_ble_eq_true rfl) hl hi0 h
end
theorem dX8_goIn_0 : decode cX8_goIn 0 = .ok (.aload_n 0, 1) := by decide +kernel
theorem dX8_goIn_1 : decode cX8_goIn 1 = .ok (.aload_n 0, 1) := by decide +kernel
theorem dX8_goIn_2 : decode cX8_goIn 2 = .ok (.getfield 27, 3) := by decide +kernel
theorem dX8_goIn_5 : decode cX8_goIn 5 = .ok (.bipush 6, 2) := by decide +kernel
theorem dX8_goIn_7 : decode cX8_goIn 7 = .ok (.if_icmp .ge 7, 3) := by decide +kernel
theorem dX8_goIn_10 : decode cX8_goIn 10 = .ok (.iconst 1, 1) := by decide +kernel
theorem dX8_goIn_11 : decode cX8_goIn 11 = .ok (.goto 4, 3) := by decide +kernel
theorem dX8_goIn_14 : decode cX8_goIn 14 = .ok (.iconst 0, 1) := by decide +kernel
theorem dX8_goIn_15 : decode cX8_goIn 15 = .ok (.invokevirtual 30, 3) := by decide +kernel
theorem dX8_goIn_18 : decode cX8_goIn 18 = .ok (.istore_n 1, 1) := by decide +kernel
theorem dX8_goIn_19 : decode cX8_goIn 19 = .ok (.aload_n 0, 1) := by decide +kernel
theorem dX8_goIn_20 : decode cX8_goIn 20 = .ok (.dup, 1) := by decide +kernel
theorem dX8_goIn_21 : decode cX8_goIn 21 = .ok (.getfield 27, 3) := by decide +kernel
theorem dX8_goIn_24 : decode cX8_goIn 24 = .ok (.iconst 1, 1) := by decide +kernel
theorem dX8_goIn_25 : decode cX8_goIn 25 = .ok (.iadd, 1) := by decide +kernel
theorem dX8_goIn_26 : decode cX8_goIn 26 = .ok (.putfield 27, 3) := by decide +kernel
theorem dX8_goIn_29 : decode cX8_goIn 29 = .ok (.return_, 1) := by decide +kernel
section
variable {p : Program} {l : Launch} {e : Env} {s : State} {m : MethodId} {args : Array Value} {below : List Frame} {meth : Method} {c : Code} {D : gD} {A : Nat → Prop} {ad : Nat → Nat} {τ : Shp} {σ : Mem}
set_option maxRecDepth 100000 in
set_option maxHeartbeats 4000000 in
theorem w_X8_goIn {i0 : Nat} (hc0 : sC τ ≤ LCl) (hs0 : sL τ ≤ LSl) (hi0 : sS τ i0 = (15, 0)) {r : (Rs Unit)} (h : f_X8_goIn σ τ i0 = some r) : Mg l yX8_goIn (ws_ yX8_goIn cX8_goIn 2 none) (rmA 9 221 τ) (va_Pc [.ref (ad i0)] (PreG D (Ew D A) A ad (sS τ) σ)) (QR D A ad τ vU r) A := by
  refine a_met hc0 hs0 (by decide) (Nat.le_of_ble_eq_true rfl) (fun p e s m args below meth c ls Z hnm hex hS B G hl => ?_)
  have hx := Z.1
  have hb := Z.2.1
  have hown := Z.2.2.2.2.2.1
  have hts := Z.2.2.2.2.2.2.1
  refine (?_ : ∀ cl sl, Bd (sC τ) (sL τ) (rmA 9 221 τ) τ cl sl → W p l e (rmA 9 221 τ) s m args below meth c s.heap [] cl sl (GQ below (QR D A ad τ vU r) args s A) (F0 m 0 ls [])) 0 0 B
  clear B
  intro cl sl B
  unfold f_X8_goIn at h
  refine lv_aload_n hx hb dX8_goIn_0 rfl (lv_at hl 0 rfl) ?_
  refine lv_aload_n hx hb dX8_goIn_1 rfl (lv_at hl 0 rfl) ?_
  refine h_getI Z hS cls_5 hi0 (by decide) rfl fl_X8_27_5 dX8_goIn_2 h (fun x1 h => ?_)
  refine lv_bipush (v := (6 : Int32)) hx hb dX8_goIn_5 (by decide) ?_
  obtain ⟨x3, hp4, h⟩ := bnd_el h
  have K4 : ∀ (H : Heap) (locs : List Loc) (ls : Array Slot), St D A ad (sS τ) σ s.heap H locs → lv_has ls 2 [(0, .ref (ad i0))] → W p l e (rmA 9 221 τ) s m args below meth c H locs cl sl (GQ below (QR D A ad τ vU r) args s A) (F0 m 15 ls [.int x3, .ref (ad i0)]) := by
    intro H locs ls hS hl
    refine a_call (av := [.ref (ad i0), .int x3]) (rest := []) Z hex hS B G (en_V (rest := []) Z hS hi0 rfl v_X8_30 rfl rfl dX8_goIn_15) q628 ⟨Nat.le_of_ble_eq_true rfl, Nat.le_of_ble_eq_true rfl⟩ hl.1 (Nat.le_of_ble_eq_true rfl) dX8_goIn_15 h (fun z hz => w_X8_take B.2.2.2.2.1 B.2.2.2.2.2 hi0 hz) (fun σ5 τ5 x6 ad5 H locs cl sl g5 hS B h => ?_)
    have G := G.trans g5
    have ea7 := g5.ad hi0
    replace hi0 := g5.sh hi0
    replace hl : lv_has ls 2 [(0, .ref (ad5 i0))] := by rw [ea7]; exact hl
    refine lv_istore_n (lv' := [(1, .int x6), (0, .ref (ad5 i0))]) hx hb dX8_goIn_18 rfl hl (by decide) rfl (fun ls hl => ?_)
    refine lv_aload_n hx hb dX8_goIn_19 rfl (lv_at hl 1 rfl) ?_
    refine lv_dup hx hb dX8_goIn_20 rfl ?_
    refine h_getI Z hS cls_5 hi0 (by decide) rfl fl_X8_27_5 dX8_goIn_21 h (fun x8 h => ?_)
    refine lv_iconst (v := (1 : Int32)) hx hb dX8_goIn_24 (by decide) ?_
    refine lv_iadd hx hb dX8_goIn_25 ?_
    refine h_putI Z hS cls_5 hi0 (by decide) rfl rfl rfl fl_X8_27_5 dX8_goIn_26 h (fun σ9 H locs hS h => ?_)
    exact a_vret Z hS B G dX8_goIn_29 h
  clear h
  have h := hp4
  clear hp4
  refine lv_icmp_ge (tgt := 14) hx hb dX8_goIn_7 (by decide) (fun c2 => ?_) (fun c2 => ?_)
  · have h := if_t h c2
    refine lv_iconst (v := (0 : Int32)) hx hb dX8_goIn_14 (by decide) ?_
    cases h
    exact K4 _ _ _ hS (lv_sub hl [0] rfl)
  · have h := if_f h c2
    refine lv_iconst (v := (1 : Int32)) hx hb dX8_goIn_10 (by decide) ?_
    refine lv_goto (tgt := 15) hx hb dX8_goIn_11 (by decide) ?_
    cases h
    exact K4 _ _ _ hS (lv_sub hl [0] rfl)
end
theorem dX8_goOut_0 : decode cX8_goOut 0 = .ok (.aload_n 0, 1) := by decide +kernel
theorem dX8_goOut_1 : decode cX8_goOut 1 = .ok (.aload_n 0, 1) := by decide +kernel
theorem dX8_goOut_2 : decode cX8_goOut 2 = .ok (.invokevirtual 34, 3) := by decide +kernel
theorem dX8_goOut_5 : decode cX8_goOut 5 = .ok (.iload_n 1, 1) := by decide +kernel
theorem dX8_goOut_6 : decode cX8_goOut 6 = .ok (.if_icmp .ne 7, 3) := by decide +kernel
theorem dX8_goOut_9 : decode cX8_goOut 9 = .ok (.iconst 1, 1) := by decide +kernel
theorem dX8_goOut_10 : decode cX8_goOut 10 = .ok (.goto 4, 3) := by decide +kernel
theorem dX8_goOut_13 : decode cX8_goOut 13 = .ok (.iconst 0, 1) := by decide +kernel
theorem dX8_goOut_14 : decode cX8_goOut 14 = .ok (.invokevirtual 30, 3) := by decide +kernel
theorem dX8_goOut_17 : decode cX8_goOut 17 = .ok (.istore_n 2, 1) := by decide +kernel
theorem dX8_goOut_18 : decode cX8_goOut 18 = .ok (.aload_n 0, 1) := by decide +kernel
theorem dX8_goOut_19 : decode cX8_goOut 19 = .ok (.dup, 1) := by decide +kernel
theorem dX8_goOut_20 : decode cX8_goOut 20 = .ok (.getfield 27, 3) := by decide +kernel
theorem dX8_goOut_23 : decode cX8_goOut 23 = .ok (.iconst 1, 1) := by decide +kernel
theorem dX8_goOut_24 : decode cX8_goOut 24 = .ok (.isub, 1) := by decide +kernel
theorem dX8_goOut_25 : decode cX8_goOut 25 = .ok (.putfield 27, 3) := by decide +kernel
theorem dX8_goOut_28 : decode cX8_goOut 28 = .ok (.return_, 1) := by decide +kernel
section
variable {p : Program} {l : Launch} {e : Env} {s : State} {m : MethodId} {args : Array Value} {below : List Frame} {meth : Method} {c : Code} {D : gD} {A : Nat → Prop} {ad : Nat → Nat} {τ : Shp} {σ : Mem}
set_option maxRecDepth 100000 in
set_option maxHeartbeats 4000000 in
theorem w_X8_goOut {i0 : Nat} {a1 : Int32} (hc0 : sC τ ≤ LCl) (hs0 : sL τ ≤ LSl) (hi0 : sS τ i0 = (15, 0)) {r : (Rs Unit)} (h : f_X8_goOut σ τ i0 a1 = some r) : Mg l yX8_goOut (ws_ yX8_goOut cX8_goOut 3 none) (rmA 9 221 τ) (va_Pc [.ref (ad i0), .int a1] (PreG D (Ew D A) A ad (sS τ) σ)) (QR D A ad τ vU r) A := by
  refine a_met hc0 hs0 (by decide) (Nat.le_of_ble_eq_true rfl) (fun p e s m args below meth c ls Z hnm hex hS B G hl => ?_)
  have hx := Z.1
  have hb := Z.2.1
  have hown := Z.2.2.2.2.2.1
  have hts := Z.2.2.2.2.2.2.1
  refine (?_ : ∀ cl sl, Bd (sC τ) (sL τ) (rmA 9 221 τ) τ cl sl → W p l e (rmA 9 221 τ) s m args below meth c s.heap [] cl sl (GQ below (QR D A ad τ vU r) args s A) (F0 m 0 ls [])) 0 0 B
  clear B
  intro cl sl B
  unfold f_X8_goOut at h
  refine lv_aload_n hx hb dX8_goOut_0 rfl (lv_at hl 0 rfl) ?_
  refine lv_aload_n hx hb dX8_goOut_1 rfl (lv_at hl 0 rfl) ?_
  refine h_cim hS h (fun z hz => h_rV (rest := [.ref (ad i0)]) Z hS hi0 rfl v_X8_34 (w_X8_look hi0 hz) rfl rfl ⟨Nat.le_of_ble_eq_true rfl, Nat.le_of_ble_eq_true rfl⟩ rfl hl.1 rfl (Nat.le_of_ble_eq_true rfl) B.cl B.sl dX8_goOut_2) (fun σ1 x2 H locs hS h => ?_)
  refine lv_iload_n hx hb dX8_goOut_5 rfl (lv_at hl 1 rfl) ?_
  obtain ⟨x4, hp5, h⟩ := bnd_el h
  have K5 : ∀ (H : Heap) (locs : List Loc) (ls : Array Slot), St D A ad (sS τ) σ1 s.heap H locs → lv_has ls 3 [(0, .ref (ad i0))] → W p l e (rmA 9 221 τ) s m args below meth c H locs cl sl (GQ below (QR D A ad τ vU r) args s A) (F0 m 14 ls [.int x4, .ref (ad i0)]) := by
    intro H locs ls hS hl
    refine a_call (av := [.ref (ad i0), .int x4]) (rest := []) Z hex hS B G (en_V (rest := []) Z hS hi0 rfl v_X8_30 rfl rfl dX8_goOut_14) q628 ⟨Nat.le_of_ble_eq_true rfl, Nat.le_of_ble_eq_true rfl⟩ hl.1 (Nat.le_of_ble_eq_true rfl) dX8_goOut_14 h (fun z hz => w_X8_take B.2.2.2.2.1 B.2.2.2.2.2 hi0 hz) (fun σ6 τ6 x7 ad6 H locs cl sl g6 hS B h => ?_)
    have G := G.trans g6
    have ea8 := g6.ad hi0
    replace hi0 := g6.sh hi0
    replace hl : lv_has ls 3 [(0, .ref (ad6 i0))] := by rw [ea8]; exact hl
    refine lv_istore_n (lv' := [(2, .int x7), (0, .ref (ad6 i0))]) hx hb dX8_goOut_17 rfl hl (by decide) rfl (fun ls hl => ?_)
    refine lv_aload_n hx hb dX8_goOut_18 rfl (lv_at hl 1 rfl) ?_
    refine lv_dup hx hb dX8_goOut_19 rfl ?_
    refine h_getI Z hS cls_5 hi0 (by decide) rfl fl_X8_27_5 dX8_goOut_20 h (fun x9 h => ?_)
    refine lv_iconst (v := (1 : Int32)) hx hb dX8_goOut_23 (by decide) ?_
    refine lv_isub hx hb dX8_goOut_24 ?_
    refine h_putI Z hS cls_5 hi0 (by decide) rfl rfl rfl fl_X8_27_5 dX8_goOut_25 h (fun σ10 H locs hS h => ?_)
    exact a_vret Z hS B G dX8_goOut_28 h
  clear h
  have h := hp5
  clear hp5
  refine lv_icmp_ne (tgt := 13) hx hb dX8_goOut_6 (by decide) (fun c3 => ?_) (fun c3 => ?_)
  · have h := if_f h c3
    refine lv_iconst (v := (0 : Int32)) hx hb dX8_goOut_13 (by decide) ?_
    cases h
    exact K5 _ _ _ hS (lv_sub hl [0] rfl)
  · have h := if_t h c3
    refine lv_iconst (v := (1 : Int32)) hx hb dX8_goOut_9 (by decide) ?_
    refine lv_goto (tgt := 14) hx hb dX8_goOut_10 (by decide) ?_
    cases h
    exact K5 _ _ _ hS (lv_sub hl [0] rfl)
end
theorem dX8_number_0 : decode cX8_number 0 = .ok (.aload_n 0, 1) := by decide +kernel
theorem dX8_number_1 : decode cX8_number 1 = .ok (.aload_n 0, 1) := by decide +kernel
theorem dX8_number_2 : decode cX8_number 2 = .ok (.invokevirtual 131, 3) := by decide +kernel
theorem dX8_number_5 : decode cX8_number 5 = .ok (.invokevirtual 30, 3) := by decide +kernel
theorem dX8_number_8 : decode cX8_number 8 = .ok (.bipush 48, 2) := by decide +kernel
theorem dX8_number_10 : decode cX8_number 10 = .ok (.isub, 1) := by decide +kernel
theorem dX8_number_11 : decode cX8_number 11 = .ok (.istore_n 1, 1) := by decide +kernel
theorem dX8_number_12 : decode cX8_number 12 = .ok (.iconst 1, 1) := by decide +kernel
theorem dX8_number_13 : decode cX8_number 13 = .ok (.istore_n 2, 1) := by decide +kernel
theorem dX8_number_14 : decode cX8_number 14 = .ok (.aload_n 0, 1) := by decide +kernel
theorem dX8_number_15 : decode cX8_number 15 = .ok (.invokevirtual 131, 3) := by decide +kernel
theorem dX8_number_18 : decode cX8_number 18 = .ok (.ifCond .eq 32, 3) := by decide +kernel
theorem dX8_number_21 : decode cX8_number 21 = .ok (.bipush 10, 2) := by decide +kernel
theorem dX8_number_23 : decode cX8_number 23 = .ok (.iload_n 1, 1) := by decide +kernel
theorem dX8_number_24 : decode cX8_number 24 = .ok (.imul, 1) := by decide +kernel
theorem dX8_number_25 : decode cX8_number 25 = .ok (.aload_n 0, 1) := by decide +kernel
theorem dX8_number_26 : decode cX8_number 26 = .ok (.iload_n 2, 1) := by decide +kernel
theorem dX8_number_27 : decode cX8_number 27 = .ok (.iconst 4, 1) := by decide +kernel
theorem dX8_number_28 : decode cX8_number 28 = .ok (.if_icmp .ge 7, 3) := by decide +kernel
theorem dX8_number_31 : decode cX8_number 31 = .ok (.iconst 1, 1) := by decide +kernel
theorem dX8_number_32 : decode cX8_number 32 = .ok (.goto 4, 3) := by decide +kernel
theorem dX8_number_35 : decode cX8_number 35 = .ok (.iconst 0, 1) := by decide +kernel
theorem dX8_number_36 : decode cX8_number 36 = .ok (.invokevirtual 30, 3) := by decide +kernel
theorem dX8_number_39 : decode cX8_number 39 = .ok (.iadd, 1) := by decide +kernel
theorem dX8_number_40 : decode cX8_number 40 = .ok (.bipush 48, 2) := by decide +kernel
theorem dX8_number_42 : decode cX8_number 42 = .ok (.isub, 1) := by decide +kernel
theorem dX8_number_43 : decode cX8_number 43 = .ok (.istore_n 1, 1) := by decide +kernel
theorem dX8_number_44 : decode cX8_number 44 = .ok (.iinc 2 1, 3) := by decide +kernel
theorem dX8_number_47 : decode cX8_number 47 = .ok (.goto (-33), 3) := by decide +kernel
theorem dX8_number_50 : decode cX8_number 50 = .ok (.iload_n 1, 1) := by decide +kernel
theorem dX8_number_51 : decode cX8_number 51 = .ok (.ireturn, 1) := by decide +kernel
section
variable {p : Program} {l : Launch} {e : Env} {s : State} {m : MethodId} {args : Array Value} {below : List Frame} {meth : Method} {c : Code} {D : gD} {A : Nat → Prop} {ad : Nat → Nat} {τ : Shp} {σ : Mem}
set_option maxRecDepth 100000 in
set_option maxHeartbeats 4000000 in
theorem w_X8_number_L14 (Z : Cz D (Ew D A) A cX8_number 3 (some .int) RX8 p s m args meth c) (hex : c.exceptionTable.toList.map (fun h => (h.startPc, h.endPc, h.handlerPc, h.catchType)) = []) {u0 : Nat} {r : (Rs Int32)} {k50 : Mem → Shp → Int32 → Option (Rs Int32)}
    (hk50 : ∀ (σ : Mem) (τ1 : Shp) (w1 : Int32) (ad1 : Nat → Nat) (cl sl : Nat) (H : Heap) (locs : List Loc) (ls : Array Slot), Gx τ ad τ1 ad1 → St D A ad1 (sS τ1) σ s.heap H locs → Bd (sC τ) (sL τ) (rmA 9 221 τ) τ1 cl sl → lv_has ls 3 [(1, .int w1)] → k50 σ τ1 w1 = some r → W p l e (rmA 9 221 τ) s m args below meth c H locs cl sl (GQ below (QR D A ad τ vI r) args s A) (F0 m 50 ls [])) :
    ∀ (n : Nat) (σ : Mem) (τ1 : Shp) (v1 : Int32) (v2 : Int32) (ad1 : Nat → Nat) (cl sl : Nat) (H : Heap) (locs : List Loc) (ls : Array Slot), Gx τ ad τ1 ad1 → ∀ (hu0 : sS τ1 u0 = (15, 0)), St D A ad1 (sS τ1) σ s.heap H locs → Bd (sC τ) (sL τ) (rmA 9 221 τ) τ1 cl sl → lv_has ls 3 [(0, .ref (ad1 u0)), (1, .int v1), (2, .int v2)] → f_X8_number_L14 k50 u0 n σ τ1 v1 v2 = some r → W p l e (rmA 9 221 τ) s m args below meth c H locs cl sl (GQ below (QR D A ad τ vI r) args s A) (F0 m 14 ls []) := by
  have hx := Z.1
  have hb := Z.2.1
  have hown := Z.2.2.2.2.2.1
  have hts := Z.2.2.2.2.2.2.1
  intro n
  induction n with
  | zero => intro σ τ1 v1 v2 ad1 cl sl H locs ls G hu0 hS B hl h; cases h
  | succ n ih =>
    intro σ τ1 v1 v2 ad1 cl sl H locs ls G hu0 hS B hl h
    unfold f_X8_number_L14 at h
    refine lv_aload_n hx hb dX8_number_14 rfl (lv_at hl 0 rfl) ?_
    refine h_ci hS h (fun z hz => h_rV (rest := []) Z hS hu0 rfl v_X8_131 (w_X8_isDigit hu0 hz) rfl rfl ⟨Nat.le_of_ble_eq_true rfl, Nat.le_of_ble_eq_true rfl⟩ rfl hl.1 rfl (Nat.le_of_ble_eq_true rfl) B.cl B.sl dX8_number_15) (fun x6 H locs hS h => ?_)
    refine lv_if_eq (tgt := 50) hx hb dX8_number_18 (by decide) (fun c7 => ?_) (fun c7 => ?_)
    · have h := if_t h c7
      exact hk50 _ _ _ _ _ _ _ _ _ G  hS B (lv_sub hl [1] rfl) h
    · have h := if_f h c7
      refine lv_bipush (v := (10 : Int32)) hx hb dX8_number_21 (by decide) ?_
      refine lv_iload_n hx hb dX8_number_23 rfl (lv_at hl 1 rfl) ?_
      refine lv_imul hx hb dX8_number_24 ?_
      refine lv_aload_n hx hb dX8_number_25 rfl (lv_at hl 0 rfl) ?_
      refine lv_iload_n hx hb dX8_number_26 rfl (lv_at hl 2 rfl) ?_
      refine lv_iconst (v := (4 : Int32)) hx hb dX8_number_27 (by decide) ?_
      obtain ⟨x9, hp10, h⟩ := bnd_el h
      have K10 : ∀ (H : Heap) (locs : List Loc) (ls : Array Slot), St D A ad1 (sS τ1) σ s.heap H locs → lv_has ls 3 [(0, .ref (ad1 u0)), (2, .int v2)] → W p l e (rmA 9 221 τ) s m args below meth c H locs cl sl (GQ below (QR D A ad τ vI r) args s A) (F0 m 36 ls [.int x9, .ref (ad1 u0), .int ((10 : Int32) * v1)]) := by
        intro H locs ls hS hl
        refine a_call (av := [.ref (ad1 u0), .int x9]) (rest := [.int ((10 : Int32) * v1)]) Z hex hS B G (en_V (rest := [.int ((10 : Int32) * v1)]) Z hS hu0 rfl v_X8_30 rfl rfl dX8_number_36) q628 ⟨Nat.le_of_ble_eq_true rfl, Nat.le_of_ble_eq_true rfl⟩ hl.1 (Nat.le_of_ble_eq_true rfl) dX8_number_36 h (fun z hz => w_X8_take B.2.2.2.2.1 B.2.2.2.2.2 hu0 hz) (fun σ11 τ11 x12 ad11 H locs cl sl g11 hS B h => ?_)
        have G := G.trans g11
        have ea13 := g11.ad hu0
        replace hu0 := g11.sh hu0
        replace hl : lv_has ls 3 [(0, .ref (ad11 u0)), (2, .int v2)] := by rw [ea13]; exact hl
        refine lv_iadd hx hb dX8_number_39 ?_
        refine lv_bipush (v := (48 : Int32)) hx hb dX8_number_40 (by decide) ?_
        refine lv_isub hx hb dX8_number_42 ?_
        refine h_leti h (fun x14 h => ?_)
        refine lv_istore_n (lv' := [(1, .int x14), (0, .ref (ad11 u0)), (2, .int v2)]) hx hb dX8_number_43 rfl hl (by decide) rfl (fun ls hl => ?_)
        refine lv_iinc (v := (v2 + (1 : Int32))) (lv' := [(2, .int (v2 + (1 : Int32))), (1, .int x14), (0, .ref (ad11 u0))]) hx hb dX8_number_44 hl (k := 2) rfl rfl (by decide) rfl (fun ls hl => ?_)
        refine lv_goto (tgt := 14) hx hb dX8_number_47 (by decide) ?_
        exact ih _ _ _ _ _ _ _ _ _ _ G hu0 hS B (lv_sub hl [2, 1, 0] rfl) h
      clear h
      have h := hp10
      clear hp10
      refine lv_icmp_ge (tgt := 35) hx hb dX8_number_28 (by decide) (fun c8 => ?_) (fun c8 => ?_)
      · have h := if_t h c8
        refine lv_iconst (v := (0 : Int32)) hx hb dX8_number_35 (by decide) ?_
        cases h
        exact K10 _ _ _ hS (lv_sub hl [0, 2] rfl)
      · have h := if_f h c8
        refine lv_iconst (v := (1 : Int32)) hx hb dX8_number_31 (by decide) ?_
        refine lv_goto (tgt := 36) hx hb dX8_number_32 (by decide) ?_
        cases h
        exact K10 _ _ _ hS (lv_sub hl [0, 2] rfl)
set_option maxRecDepth 100000 in
set_option maxHeartbeats 4000000 in
theorem w_X8_number {i0 : Nat} (hc0 : sC τ ≤ LCl) (hs0 : sL τ ≤ LSl) (hi0 : sS τ i0 = (15, 0)) {r : (Rs Int32)} (h : f_X8_number σ τ i0 = some r) : Mg l yX8_number (ws_ yX8_number cX8_number 3 (some .int)) (rmA 9 221 τ) (va_Pc [.ref (ad i0)] (PreG D (Ew D A) A ad (sS τ) σ)) (QR D A ad τ vI r) A := by
  refine a_met hc0 hs0 (by decide) (Nat.le_of_ble_eq_true rfl) (fun p e s m args below meth c ls Z hnm hex hS B G hl => ?_)
  have hx := Z.1
  have hb := Z.2.1
  have hown := Z.2.2.2.2.2.1
  have hts := Z.2.2.2.2.2.2.1
  refine (?_ : ∀ cl sl, Bd (sC τ) (sL τ) (rmA 9 221 τ) τ cl sl → W p l e (rmA 9 221 τ) s m args below meth c s.heap [] cl sl (GQ below (QR D A ad τ vI r) args s A) (F0 m 0 ls [])) 0 0 B
  clear B
  intro cl sl B
  unfold f_X8_number at h
  refine lv_aload_n hx hb dX8_number_0 rfl (lv_at hl 0 rfl) ?_
  refine lv_aload_n hx hb dX8_number_1 rfl (lv_at hl 0 rfl) ?_
  refine h_ci hS h (fun z hz => h_rV (rest := [.ref (ad i0)]) Z hS hi0 rfl v_X8_131 (w_X8_isDigit hi0 hz) rfl rfl ⟨Nat.le_of_ble_eq_true rfl, Nat.le_of_ble_eq_true rfl⟩ rfl hl.1 rfl (Nat.le_of_ble_eq_true rfl) B.cl B.sl dX8_number_2) (fun x1 H locs hS h => ?_)
  refine a_call (av := [.ref (ad i0), .int x1]) (rest := []) Z hex hS B G (en_V (rest := []) Z hS hi0 rfl v_X8_30 rfl rfl dX8_number_5) q628 ⟨Nat.le_of_ble_eq_true rfl, Nat.le_of_ble_eq_true rfl⟩ hl.1 (Nat.le_of_ble_eq_true rfl) dX8_number_5 h (fun z hz => w_X8_take B.2.2.2.2.1 B.2.2.2.2.2 hi0 hz) (fun σ2 τ2 x3 ad2 H locs cl sl g2 hS B h => ?_)
  have G := G.trans g2
  have ea4 := g2.ad hi0
  replace hi0 := g2.sh hi0
  replace hl : lv_has ls 3 [(0, .ref (ad2 i0))] := by rw [ea4]; exact hl
  refine lv_bipush (v := (48 : Int32)) hx hb dX8_number_8 (by decide) ?_
  refine lv_isub hx hb dX8_number_10 ?_
  refine h_leti h (fun x5 h => ?_)
  refine lv_istore_n (lv' := [(1, .int x5), (0, .ref (ad2 i0))]) hx hb dX8_number_11 rfl hl (by decide) rfl (fun ls hl => ?_)
  refine lv_iconst (v := (1 : Int32)) hx hb dX8_number_12 (by decide) ?_
  refine lv_istore_n (lv' := [(2, .int (1 : Int32)), (1, .int x5), (0, .ref (ad2 i0))]) hx hb dX8_number_13 rfl hl (by decide) rfl (fun ls hl => ?_)
  refine w_X8_number_L14 Z hex (fun σ15 τ15 x16 ad15 cl sl H locs ls G  hS B hl h => ?_) FU _ _ _ _ _ _ _ _ _ _ G hi0 hS B (lv_sub hl [2, 1, 0] rfl) h
  refine lv_iload_n hx hb dX8_number_50 rfl (lv_at hl 0 rfl) ?_
  exact a_iret Z hS B G dX8_number_51 h
end
theorem dX8_atom_0 : decode cX8_atom 0 = .ok (.aload_n 0, 1) := by decide +kernel
theorem dX8_atom_1 : decode cX8_atom 1 = .ok (.invokevirtual 34, 3) := by decide +kernel
theorem dX8_atom_4 : decode cX8_atom 4 = .ok (.istore_n 1, 1) := by decide +kernel
theorem dX8_atom_5 : decode cX8_atom 5 = .ok (.iload_n 1, 1) := by decide +kernel
theorem dX8_atom_6 : decode cX8_atom 6 = .ok (.bipush 91, 2) := by decide +kernel
theorem dX8_atom_8 : decode cX8_atom 8 = .ok (.if_icmp .ne 20, 3) := by decide +kernel
theorem dX8_atom_11 : decode cX8_atom 11 = .ok (.aload_n 0, 1) := by decide +kernel
theorem dX8_atom_12 : decode cX8_atom 12 = .ok (.invokevirtual 89, 3) := by decide +kernel
theorem dX8_atom_15 : decode cX8_atom 15 = .ok (.aload_n 0, 1) := by decide +kernel
theorem dX8_atom_16 : decode cX8_atom 16 = .ok (.invokevirtual 64, 3) := by decide +kernel
theorem dX8_atom_19 : decode cX8_atom 19 = .ok (.astore_n 2, 1) := by decide +kernel
theorem dX8_atom_20 : decode cX8_atom 20 = .ok (.aload_n 0, 1) := by decide +kernel
theorem dX8_atom_21 : decode cX8_atom 21 = .ok (.bipush 93, 2) := by decide +kernel
theorem dX8_atom_23 : decode cX8_atom 23 = .ok (.invokevirtual 97, 3) := by decide +kernel
theorem dX8_atom_26 : decode cX8_atom 26 = .ok (.aload_n 2, 1) := by decide +kernel
theorem dX8_atom_27 : decode cX8_atom 27 = .ok (.areturn, 1) := by decide +kernel
theorem dX8_atom_28 : decode cX8_atom 28 = .ok (.iload_n 1, 1) := by decide +kernel
theorem dX8_atom_29 : decode cX8_atom 29 = .ok (.iconst (-1), 1) := by decide +kernel
theorem dX8_atom_30 : decode cX8_atom 30 = .ok (.if_icmp .ne 7, 3) := by decide +kernel
theorem dX8_atom_33 : decode cX8_atom 33 = .ok (.iconst (-1), 1) := by decide +kernel
theorem dX8_atom_34 : decode cX8_atom 34 = .ok (.goto 9, 3) := by decide +kernel
theorem dX8_atom_37 : decode cX8_atom 37 = .ok (.ldc 120, 2) := by decide +kernel
theorem dX8_atom_39 : decode cX8_atom 39 = .ok (.iload_n 1, 1) := by decide +kernel
theorem dX8_atom_40 : decode cX8_atom 40 = .ok (.invokevirtual 50, 3) := by decide +kernel
theorem dX8_atom_43 : decode cX8_atom 43 = .ok (.istore_n 2, 1) := by decide +kernel
theorem dX8_atom_44 : decode cX8_atom 44 = .ok (.iload_n 2, 1) := by decide +kernel
theorem dX8_atom_45 : decode cX8_atom 45 = .ok (.iconst (-1), 1) := by decide +kernel
theorem dX8_atom_46 : decode cX8_atom 46 = .ok (.if_icmp .ne 15, 3) := by decide +kernel
theorem dX8_atom_49 : decode cX8_atom 49 = .ok (.new 122, 3) := by decide +kernel
theorem dX8_atom_52 : decode cX8_atom 52 = .ok (.dup, 1) := by decide +kernel
theorem dX8_atom_53 : decode cX8_atom 53 = .ok (.aload_n 0, 1) := by decide +kernel
theorem dX8_atom_54 : decode cX8_atom 54 = .ok (.invokevirtual 124, 3) := by decide +kernel
theorem dX8_atom_57 : decode cX8_atom 57 = .ok (.invokespecial 127, 3) := by decide +kernel
theorem dX8_atom_60 : decode cX8_atom 60 = .ok (.areturn, 1) := by decide +kernel
theorem dX8_atom_61 : decode cX8_atom 61 = .ok (.aload_n 0, 1) := by decide +kernel
theorem dX8_atom_62 : decode cX8_atom 62 = .ok (.dup, 1) := by decide +kernel
theorem dX8_atom_63 : decode cX8_atom 63 = .ok (.getfield 19, 3) := by decide +kernel
theorem dX8_atom_66 : decode cX8_atom 66 = .ok (.iconst 1, 1) := by decide +kernel
theorem dX8_atom_67 : decode cX8_atom 67 = .ok (.iadd, 1) := by decide +kernel
theorem dX8_atom_68 : decode cX8_atom 68 = .ok (.putfield 19, 3) := by decide +kernel
theorem dX8_atom_71 : decode cX8_atom 71 = .ok (.new 128, 3) := by decide +kernel
theorem dX8_atom_74 : decode cX8_atom 74 = .ok (.dup, 1) := by decide +kernel
theorem dX8_atom_75 : decode cX8_atom 75 = .ok (.iload_n 2, 1) := by decide +kernel
theorem dX8_atom_76 : decode cX8_atom 76 = .ok (.invokespecial 130, 3) := by decide +kernel
theorem dX8_atom_79 : decode cX8_atom 79 = .ok (.areturn, 1) := by decide +kernel
section
variable {p : Program} {l : Launch} {e : Env} {s : State} {m : MethodId} {args : Array Value} {below : List Frame} {meth : Method} {c : Code} {D : gD} {A : Nat → Prop} {ad : Nat → Nat} {τ : Shp} {σ : Mem}
set_option maxRecDepth 100000 in
set_option maxHeartbeats 4000000 in
theorem w_X8_atom_b {rec : Mem → Shp → Nat → Option (Rs Nat)} {qf ql : Nat} (hrec : ∀ {σ : Mem} {τ : Shp} {ad : Nat → Nat} {i0 : Nat} (_ : sC τ ≤ LCl) (_ : sL τ ≤ LSl) (_ : sS τ i0 = (15, 0)) {r : Rs Nat}, rec σ τ i0 = some r → Mg l yX8_sum (ws_ yX8_sum cX8_sum 3 (some (.object "ClogHouse$Sum"))) (rmA qf ql τ) (va_Pc [.ref (ad i0)] (PreG D (Ew D A) A ad (sS τ) σ)) (QR D A ad τ vN r) A) {i0 : Nat} (hc0 : sC τ ≤ LCl) (hs0 : sL τ ≤ LSl) (hi0 : sS τ i0 = (15, 0)) {r : (Rs Nat)} (h : f_X8_atom_b rec σ τ i0 = some r) : Mg l yX8_atom (ws_ yX8_atom cX8_atom 3 (some (.object "ClogHouse$Sum"))) (rmA (qf + 10) (ql + 243) τ) (va_Pc [.ref (ad i0)] (PreG D (Ew D A) A ad (sS τ) σ)) (QR D A ad τ vN r) A := by
  refine a_met hc0 hs0 (by decide) (Nat.le_of_ble_eq_true rfl) (fun p e s m args below meth c ls Z hnm hex hS B G hl => ?_)
  have hx := Z.1
  have hb := Z.2.1
  have hown := Z.2.2.2.2.2.1
  have hts := Z.2.2.2.2.2.2.1
  refine (?_ : ∀ cl sl, Bd (sC τ) (sL τ) (rmA (qf + 10) (ql + 243) τ) τ cl sl → W p l e (rmA (qf + 10) (ql + 243) τ) s m args below meth c s.heap [] cl sl (GQ below (QR D A ad τ vN r) args s A) (F0 m 0 ls [])) 0 0 B
  clear B
  intro cl sl B
  unfold f_X8_atom_b at h
  refine lv_aload_n hx hb dX8_atom_0 rfl (lv_at hl 0 rfl) ?_
  refine h_cim hS h (fun z hz => h_rV (rest := []) Z hS hi0 rfl v_X8_34 (w_X8_look hi0 hz) rfl rfl ⟨by show 0 + 1 ≤ qf + 10; omega, by show 8 + (1 + 11) + (0) ≤ ql + 243; omega⟩ rfl hl.1 rfl (Nat.le_of_ble_eq_true rfl) B.cl B.sl dX8_atom_1) (fun σ1 x2 H locs hS h => ?_)
  refine lv_istore_n (lv' := [(1, .int x2), (0, .ref (ad i0))]) hx hb dX8_atom_4 rfl hl (by decide) rfl (fun ls hl => ?_)
  refine lv_iload_n hx hb dX8_atom_5 rfl (lv_at hl 0 rfl) ?_
  refine lv_bipush (v := (91 : Int32)) hx hb dX8_atom_6 (by decide) ?_
  refine lv_icmp_ne (tgt := 28) hx hb dX8_atom_8 (by decide) (fun c3 => ?_) (fun c3 => ?_)
  · have h := if_f h c3
    refine lv_iload_n hx hb dX8_atom_28 rfl (lv_at hl 0 rfl) ?_
    refine lv_iconst (v := (-1 : Int32)) hx hb dX8_atom_29 (by decide) ?_
    obtain ⟨x13, hp14, h⟩ := bnd_el h
    have K14 : ∀ (H : Heap) (locs : List Loc) (ls : Array Slot), St D A ad (sS τ) σ1 s.heap H locs → lv_has ls 3 [(0, .ref (ad i0))] → W p l e (rmA (qf + 10) (ql + 243) τ) s m args below meth c H locs cl sl (GQ below (QR D A ad τ vN r) args s A) (F0 m 43 ls [.int x13]) := by
      intro H locs ls hS hl
      refine lv_istore_n (lv' := [(2, .int x13), (0, .ref (ad i0))]) hx hb dX8_atom_43 rfl hl (by decide) rfl (fun ls hl => ?_)
      refine lv_iload_n hx hb dX8_atom_44 rfl (lv_at hl 0 rfl) ?_
      refine lv_iconst (v := (-1 : Int32)) hx hb dX8_atom_45 (by decide) ?_
      refine lv_icmp_ne (tgt := 61) hx hb dX8_atom_46 (by decide) (fun c15 => ?_) (fun c15 => ?_)
      · have h := if_f h c15
        refine lv_aload_n hx hb dX8_atom_61 rfl (lv_at hl 1 rfl) ?_
        refine lv_dup hx hb dX8_atom_62 rfl ?_
        refine h_getI Z hS cls_5 hi0 (by decide) rfl fl_X8_19_5 dX8_atom_63 h (fun x24 h => ?_)
        refine lv_iconst (v := (1 : Int32)) hx hb dX8_atom_66 (by decide) ?_
        refine lv_iadd hx hb dX8_atom_67 ?_
        refine h_putI Z hS cls_5 hi0 (by decide) rfl rfl rfl fl_X8_19_5 dX8_atom_68 h (fun σ25 H locs hS h => ?_)
        refine a_newD Z hS B cls_10 dv_10 nc_10 q766 q767 q99 dX8_atom_71 h (fun ad26 σ26 τ26 j27 H ga gb gc hj27 hS B h => ?_)
        have g26 : Gx τ ad τ26 ad26 := ⟨ga, gb, gc⟩
        have G := G.trans g26
        generalize cl + 1 = cl at B ⊢
        generalize sl + 1 = sl at B ⊢
        have ea28 := g26.ad hi0
        replace hi0 := g26.sh hi0
        replace hl : lv_has ls 3 [(2, .int x13), (0, .ref (ad26 i0))] := by rw [ea28]; exact hl
        refine lv_dup hx hb dX8_atom_74 rfl ?_
        refine lv_iload_n hx hb dX8_atom_75 rfl (lv_at hl 0 rfl) ?_
        refine h_cm hS h (fun z hz => h_rI (rest := [.ref (ad26 j27)]) Z hS vc_X8_130 (w_X15_init hj27 hz) rfl rfl ⟨by show 2 + 1 ≤ qf + 10; omega, by show 8 + (2 + 11) + (32) ≤ ql + 243; omega⟩ rfl hl.1 rfl (Nat.le_of_ble_eq_true rfl) B.cl B.sl dX8_atom_76) (fun σ29 H locs hS h => ?_)
        exact a_aret Z hS B G dX8_atom_79 h
      · have h := if_t h c15
        refine a_newD Z hS B cls_9 dv_9 nc_9 q745 q746 q98 dX8_atom_49 h (fun ad16 σ16 τ16 j17 H ga gb gc hj17 hS B h => ?_)
        have g16 : Gx τ ad τ16 ad16 := ⟨ga, gb, gc⟩
        have G := G.trans g16
        generalize cl + 1 = cl at B ⊢
        generalize sl + 1 = sl at B ⊢
        have ea18 := g16.ad hi0
        replace hi0 := g16.sh hi0
        replace hl : lv_has ls 3 [(2, .int x13), (0, .ref (ad16 i0))] := by rw [ea18]; exact hl
        refine lv_dup hx hb dX8_atom_52 rfl ?_
        refine lv_aload_n hx hb dX8_atom_53 rfl (lv_at hl 1 rfl) ?_
        refine a_call (av := [.ref (ad16 i0)]) (rest := [.ref (ad16 j17), .ref (ad16 j17)]) Z hex hS B G (en_V (rest := [.ref (ad16 j17), .ref (ad16 j17)]) Z hS hi0 rfl v_X8_124 rfl rfl dX8_atom_54) q750 ⟨by show 9 + 1 ≤ qf + 10; omega, by show 8 + (3 + 11) + (221) ≤ ql + 243; omega⟩ hl.1 (Nat.le_of_ble_eq_true rfl) dX8_atom_54 h (fun z hz => w_X8_number B.2.2.2.2.1 B.2.2.2.2.2 hi0 hz) (fun σ19 τ19 x20 ad19 H locs cl sl g19 hS B h => ?_)
        have G := G.trans g19
        have ea21 := g19.ad hi0
        replace hi0 := g19.sh hi0
        have ea22 := g19.ad hj17
        replace hj17 := g19.sh hj17
        replace hl : lv_has ls 3 [(2, .int x13), (0, .ref (ad19 i0))] := by rw [ea21]; exact hl
        refine W_stk (st' := [.int x20, .ref (ad19 j17), .ref (ad19 j17)]) (by first | (rw [ea22]; done) | (rw [ea22]; rfl)) ?_
        refine h_cm hS h (fun z hz => h_rI (rest := [.ref (ad19 j17)]) Z hS vc_X8_127 (w_X14_init hj17 hz) rfl rfl ⟨by show 2 + 1 ≤ qf + 10; omega, by show 8 + (2 + 11) + (32) ≤ ql + 243; omega⟩ rfl hl.1 rfl (Nat.le_of_ble_eq_true rfl) B.cl B.sl dX8_atom_57) (fun σ23 H locs hS h => ?_)
        exact a_aret Z hS B G dX8_atom_60 h
    clear h
    have h := hp14
    clear hp14
    refine lv_icmp_ne (tgt := 37) hx hb dX8_atom_30 (by decide) (fun c12 => ?_) (fun c12 => ?_)
    · have h := if_f h c12
      refine h_idx (w := 1) (x := x2) Z hS idxAt_1 vx_X8_50 (by show 5 ≤ qf + 10; omega) (by show 170 ≤ ql + 243; omega) B.cl B.sl hl.1 (Nat.le_of_ble_eq_true rfl) (lv_at hl 0 rfl) dX8_atom_37 dX8_atom_39 dX8_atom_40 (fun H locs hS => ?_)
      cases h
      exact K14 _ _ _ hS (lv_sub hl [1] rfl)
    · have h := if_t h c12
      refine lv_iconst (v := (-1 : Int32)) hx hb dX8_atom_33 (by decide) ?_
      refine lv_goto (tgt := 43) hx hb dX8_atom_34 (by decide) ?_
      cases h
      exact K14 _ _ _ hS (lv_sub hl [1] rfl)
  · have h := if_t h c3
    refine lv_aload_n hx hb dX8_atom_11 rfl (lv_at hl 1 rfl) ?_
    refine a_call (av := [.ref (ad i0)]) (rest := []) Z hex hS B G (en_V (rest := []) Z hS hi0 rfl v_X8_89 rfl rfl dX8_atom_12) q715 ⟨by show 9 + 1 ≤ qf + 10; omega, by show 8 + (2 + 11) + (221) ≤ ql + 243; omega⟩ hl.1 (Nat.le_of_ble_eq_true rfl) dX8_atom_12 h (fun z hz => w_X8_goIn B.2.2.2.2.1 B.2.2.2.2.2 hi0 hz) (fun σ4 τ4 _ ad4 H locs cl sl g4 hS B h => ?_)
    have G := G.trans g4
    have ea5 := g4.ad hi0
    replace hi0 := g4.sh hi0
    replace hl : lv_has ls 3 [(1, .int x2), (0, .ref (ad4 i0))] := by rw [ea5]; exact hl
    refine lv_aload_n hx hb dX8_atom_15 rfl (lv_at hl 1 rfl) ?_
    refine a_call (av := [.ref (ad4 i0)]) (rest := []) Z hex hS B G (en_V (rest := []) Z hS hi0 rfl v_X8_64 rfl rfl dX8_atom_16) q733 ⟨by show qf + 0 + 1 ≤ qf + 10; omega, by show 8 + (3 + 11) + (ql + 0) ≤ ql + 243; omega⟩ hl.1 (Nat.le_of_ble_eq_true rfl) dX8_atom_16 h (fun z hz => hrec B.2.2.2.2.1 B.2.2.2.2.2 hi0 hz) (fun σ6 τ6 j7 ad6 H locs cl sl g6 hS B h => ?_)
    have G := G.trans g6
    obtain ⟨hj7, h⟩ := gd_el h
    replace hj7 := isSh_m hj7
    have ea8 := g6.ad hi0
    replace hi0 := g6.sh hi0
    replace hl : lv_has ls 3 [(1, .int x2), (0, .ref (ad6 i0))] := by rw [ea8]; exact hl
    refine lv_astore_n (lv' := [(2, .ref (ad6 j7)), (1, .int x2), (0, .ref (ad6 i0))]) hx hb dX8_atom_19 rfl hl (by decide) rfl (fun ls hl => ?_)
    refine lv_aload_n hx hb dX8_atom_20 rfl (lv_at hl 2 rfl) ?_
    refine lv_bipush (v := (93 : Int32)) hx hb dX8_atom_21 (by decide) ?_
    refine a_call (av := [.ref (ad6 i0), .int (93 : Int32)]) (rest := []) Z hex hS B G (en_V (rest := []) Z hS hi0 rfl v_X8_97 rfl rfl dX8_atom_23) q729 ⟨by show 9 + 1 ≤ qf + 10; omega, by show 8 + (3 + 11) + (221) ≤ ql + 243; omega⟩ hl.1 (Nat.le_of_ble_eq_true rfl) dX8_atom_23 h (fun z hz => w_X8_goOut B.2.2.2.2.1 B.2.2.2.2.2 hi0 hz) (fun σ9 τ9 _ ad9 H locs cl sl g9 hS B h => ?_)
    have G := G.trans g9
    have ea10 := g9.ad hi0
    replace hi0 := g9.sh hi0
    have ea11 := g9.adm hj7 (by decide)
    replace hj7 := g9.shm hj7 (by decide)
    replace hl : lv_has ls 3 [(2, .ref (ad9 j7)), (1, .int x2), (0, .ref (ad9 i0))] := by rw [ea11, ea10]; exact hl
    refine lv_aload_n hx hb dX8_atom_26 rfl (lv_at hl 0 rfl) ?_
    exact a_aret Z hS B G dX8_atom_27 h
end
theorem dX8_term_0 : decode cX8_term 0 = .ok (.new 105, 3) := by decide +kernel
theorem dX8_term_3 : decode cX8_term 3 = .ok (.dup, 1) := by decide +kernel
theorem dX8_term_4 : decode cX8_term 4 = .ok (.aload_n 0, 1) := by decide +kernel
theorem dX8_term_5 : decode cX8_term 5 = .ok (.invokevirtual 117, 3) := by decide +kernel
theorem dX8_term_8 : decode cX8_term 8 = .ok (.invokespecial 110, 3) := by decide +kernel
theorem dX8_term_11 : decode cX8_term 11 = .ok (.astore_n 1, 1) := by decide +kernel
theorem dX8_term_12 : decode cX8_term 12 = .ok (.aload_n 0, 1) := by decide +kernel
theorem dX8_term_13 : decode cX8_term 13 = .ok (.invokevirtual 34, 3) := by decide +kernel
theorem dX8_term_16 : decode cX8_term 16 = .ok (.bipush 42, 2) := by decide +kernel
theorem dX8_term_18 : decode cX8_term 18 = .ok (.if_icmp .eq 12, 3) := by decide +kernel
theorem dX8_term_21 : decode cX8_term 21 = .ok (.aload_n 0, 1) := by decide +kernel
theorem dX8_term_22 : decode cX8_term 22 = .ok (.invokevirtual 34, 3) := by decide +kernel
theorem dX8_term_25 : decode cX8_term 25 = .ok (.bipush 47, 2) := by decide +kernel
theorem dX8_term_27 : decode cX8_term 27 = .ok (.if_icmp .ne 21, 3) := by decide +kernel
theorem dX8_term_30 : decode cX8_term 30 = .ok (.aload_n 0, 1) := by decide +kernel
theorem dX8_term_31 : decode cX8_term 31 = .ok (.iconst 1, 1) := by decide +kernel
theorem dX8_term_32 : decode cX8_term 32 = .ok (.invokevirtual 30, 3) := by decide +kernel
theorem dX8_term_35 : decode cX8_term 35 = .ok (.istore_n 2, 1) := by decide +kernel
theorem dX8_term_36 : decode cX8_term 36 = .ok (.aload_n 1, 1) := by decide +kernel
theorem dX8_term_37 : decode cX8_term 37 = .ok (.iload_n 2, 1) := by decide +kernel
theorem dX8_term_38 : decode cX8_term 38 = .ok (.aload_n 0, 1) := by decide +kernel
theorem dX8_term_39 : decode cX8_term 39 = .ok (.invokevirtual 117, 3) := by decide +kernel
theorem dX8_term_42 : decode cX8_term 42 = .ok (.invokevirtual 113, 3) := by decide +kernel
theorem dX8_term_45 : decode cX8_term 45 = .ok (.goto (-33), 3) := by decide +kernel
theorem dX8_term_48 : decode cX8_term 48 = .ok (.aload_n 1, 1) := by decide +kernel
theorem dX8_term_49 : decode cX8_term 49 = .ok (.areturn, 1) := by decide +kernel
section
variable {p : Program} {l : Launch} {e : Env} {s : State} {m : MethodId} {args : Array Value} {below : List Frame} {meth : Method} {c : Code} {D : gD} {A : Nat → Prop} {ad : Nat → Nat} {τ : Shp} {σ : Mem}
set_option maxRecDepth 100000 in
set_option maxHeartbeats 4000000 in
theorem w_X8_term_b_L12 {rec : Mem → Shp → Nat → Option (Rs Nat)} {qf ql : Nat} (hrec : ∀ {σ : Mem} {τ : Shp} {ad : Nat → Nat} {i0 : Nat} (_ : sC τ ≤ LCl) (_ : sL τ ≤ LSl) (_ : sS τ i0 = (15, 0)) {r : Rs Nat}, rec σ τ i0 = some r → Mg l yX8_sum (ws_ yX8_sum cX8_sum 3 (some (.object "ClogHouse$Sum"))) (rmA qf ql τ) (va_Pc [.ref (ad i0)] (PreG D (Ew D A) A ad (sS τ) σ)) (QR D A ad τ vN r) A) (Z : Cz D (Ew D A) A cX8_term 3 (some (.object "ClogHouse$Sum")) RX8 p s m args meth c) (hex : c.exceptionTable.toList.map (fun h => (h.startPc, h.endPc, h.handlerPc, h.catchType)) = []) {u0 : Nat} {u1 : Nat} {r : (Rs Nat)} {k48 : Mem → Shp → Option (Rs Nat)}
    (hk48 : ∀ (σ : Mem) (τ1 : Shp)  (ad1 : Nat → Nat) (cl sl : Nat) (H : Heap) (locs : List Loc) (ls : Array Slot), Gx τ ad τ1 ad1 → ∀ (_ : sS τ1 u1 = (18, 0)), St D A ad1 (sS τ1) σ s.heap H locs → Bd (sC τ) (sL τ) (rmA (qf + 11) (ql + 265) τ) τ1 cl sl → lv_has ls 3 [(1, .ref (ad1 u1))] → k48 σ τ1 = some r → W p l e (rmA (qf + 11) (ql + 265) τ) s m args below meth c H locs cl sl (GQ below (QR D A ad τ vN r) args s A) (F0 m 48 ls [])) :
    ∀ (n : Nat) (σ : Mem) (τ1 : Shp)  (ad1 : Nat → Nat) (cl sl : Nat) (H : Heap) (locs : List Loc) (ls : Array Slot), Gx τ ad τ1 ad1 → ∀ (hu0 : sS τ1 u0 = (15, 0)) (hu1 : sS τ1 u1 = (18, 0)), St D A ad1 (sS τ1) σ s.heap H locs → Bd (sC τ) (sL τ) (rmA (qf + 11) (ql + 265) τ) τ1 cl sl → lv_has ls 3 [(0, .ref (ad1 u0)), (1, .ref (ad1 u1))] → f_X8_term_b_L12 rec k48 u0 u1 n σ τ1 = some r → W p l e (rmA (qf + 11) (ql + 265) τ) s m args below meth c H locs cl sl (GQ below (QR D A ad τ vN r) args s A) (F0 m 12 ls []) := by
  have hx := Z.1
  have hb := Z.2.1
  have hown := Z.2.2.2.2.2.1
  have hts := Z.2.2.2.2.2.2.1
  intro n
  induction n with
  | zero => intro σ τ1  ad1 cl sl H locs ls G hu0 hu1 hS B hl h; cases h
  | succ n ih =>
    intro σ τ1  ad1 cl sl H locs ls G hu0 hu1 hS B hl h
    unfold f_X8_term_b_L12 at h
    refine lv_aload_n hx hb dX8_term_12 rfl (lv_at hl 0 rfl) ?_
    refine h_cim hS h (fun z hz => h_rV (rest := []) Z hS hu0 rfl v_X8_34 (w_X8_look hu0 hz) rfl rfl ⟨by show 0 + 1 ≤ qf + 11; omega, by show 8 + (1 + 11) + (0) ≤ ql + 265; omega⟩ rfl hl.1 rfl (Nat.le_of_ble_eq_true rfl) B.cl B.sl dX8_term_13) (fun σ9 x10 H locs hS h => ?_)
    refine lv_bipush (v := (42 : Int32)) hx hb dX8_term_16 (by decide) ?_
    refine lv_icmp_eq (tgt := 30) hx hb dX8_term_18 (by decide) (fun c11 => ?_) (fun c11 => ?_)
    · have h := if_t h c11
      refine lv_aload_n hx hb dX8_term_30 rfl (lv_at hl 0 rfl) ?_
      refine lv_iconst (v := (1 : Int32)) hx hb dX8_term_31 (by decide) ?_
      refine a_call (av := [.ref (ad1 u0), .int (1 : Int32)]) (rest := []) Z hex hS B G (en_V (rest := []) Z hS hu0 rfl v_X8_30 rfl rfl dX8_term_32) q628 ⟨by show 8 + 1 ≤ qf + 11; omega, by show 8 + (2 + 11) + (200) ≤ ql + 265; omega⟩ hl.1 (Nat.le_of_ble_eq_true rfl) dX8_term_32 h (fun z hz => w_X8_take B.2.2.2.2.1 B.2.2.2.2.2 hu0 hz) (fun σ12 τ12 x13 ad12 H locs cl sl g12 hS B h => ?_)
      have G := G.trans g12
      have ea14 := g12.ad hu0
      replace hu0 := g12.sh hu0
      have ea15 := g12.ad hu1
      replace hu1 := g12.sh hu1
      replace hl : lv_has ls 3 [(0, .ref (ad12 u0)), (1, .ref (ad12 u1))] := by rw [ea14, ea15]; exact hl
      refine lv_istore_n (lv' := [(2, .int x13), (0, .ref (ad12 u0)), (1, .ref (ad12 u1))]) hx hb dX8_term_35 rfl hl (by decide) rfl (fun ls hl => ?_)
      refine lv_aload_n hx hb dX8_term_36 rfl (lv_at hl 2 rfl) ?_
      refine lv_iload_n hx hb dX8_term_37 rfl (lv_at hl 0 rfl) ?_
      refine lv_aload_n hx hb dX8_term_38 rfl (lv_at hl 1 rfl) ?_
      refine a_call (av := [.ref (ad12 u0)]) (rest := [.int x13, .ref (ad12 u1)]) Z hex hS B G (en_V (rest := [.int x13, .ref (ad12 u1)]) Z hS hu0 rfl v_X8_117 rfl rfl dX8_term_39) q743 ⟨by show qf + 10 + 1 ≤ qf + 11; omega, by show 8 + (3 + 11) + (ql + 243) ≤ ql + 265; omega⟩ hl.1 (Nat.le_of_ble_eq_true rfl) dX8_term_39 h (fun z hz => w_X8_atom_b hrec B.2.2.2.2.1 B.2.2.2.2.2 hu0 hz) (fun σ16 τ16 j17 ad16 H locs cl sl g16 hS B h => ?_)
      have G := G.trans g16
      obtain ⟨hj17, h⟩ := gd_el h
      replace hj17 := isSh_m hj17
      have ea18 := g16.ad hu0
      replace hu0 := g16.sh hu0
      have ea19 := g16.ad hu1
      replace hu1 := g16.sh hu1
      replace hl : lv_has ls 3 [(2, .int x13), (0, .ref (ad16 u0)), (1, .ref (ad16 u1))] := by rw [ea18, ea19]; exact hl
      refine W_stk (st' := [.ref (ad16 j17), .int x13, .ref (ad16 u1)]) (by first | (rw [ea19]; done) | (rw [ea19]; rfl)) ?_
      refine a_call (av := [.ref (ad16 u1), .int x13, .ref (ad16 j17)]) (rest := []) Z hex hS B G (en_V (rest := []) Z hS hu1 rfl v_X8_113 rfl rfl dX8_term_42) q793 ⟨by show 2 + 1 ≤ qf + 11; omega, by show 8 + (4 + 11) + (34) ≤ ql + 265; omega⟩ hl.1 (Nat.le_of_ble_eq_true rfl) dX8_term_42 h (fun z hz => w_X13_add B.2.2.2.2.1 B.2.2.2.2.2 hu1 hj17 hz) (fun σ20 τ20 _ ad20 H locs cl sl g20 hS B h => ?_)
      have G := G.trans g20
      have ea21 := g20.ad hu0
      replace hu0 := g20.sh hu0
      have ea22 := g20.ad hu1
      replace hu1 := g20.sh hu1
      replace hl : lv_has ls 3 [(2, .int x13), (0, .ref (ad20 u0)), (1, .ref (ad20 u1))] := by rw [ea21, ea22]; exact hl
      refine lv_goto (tgt := 12) hx hb dX8_term_45 (by decide) ?_
      exact ih _ _ _ _ _ _ _ _ G hu0 hu1 hS B (lv_sub hl [1, 2] rfl) h
    · have h := if_f h c11
      refine lv_aload_n hx hb dX8_term_21 rfl (lv_at hl 0 rfl) ?_
      refine h_cim hS h (fun z hz => h_rV (rest := []) Z hS hu0 rfl v_X8_34 (w_X8_look hu0 hz) rfl rfl ⟨by show 0 + 1 ≤ qf + 11; omega, by show 8 + (1 + 11) + (0) ≤ ql + 265; omega⟩ rfl hl.1 rfl (Nat.le_of_ble_eq_true rfl) B.cl B.sl dX8_term_22) (fun σ23 x24 H locs hS h => ?_)
      refine lv_bipush (v := (47 : Int32)) hx hb dX8_term_25 (by decide) ?_
      refine lv_icmp_ne (tgt := 48) hx hb dX8_term_27 (by decide) (fun c25 => ?_) (fun c25 => ?_)
      · have h := if_f h c25
        exact hk48 _ _ _ _ _ _ _ _ G hu1 hS B (lv_sub hl [1] rfl) h
      · have h := if_t h c25
        refine lv_aload_n hx hb dX8_term_30 rfl (lv_at hl 0 rfl) ?_
        refine lv_iconst (v := (1 : Int32)) hx hb dX8_term_31 (by decide) ?_
        refine a_call (av := [.ref (ad1 u0), .int (1 : Int32)]) (rest := []) Z hex hS B G (en_V (rest := []) Z hS hu0 rfl v_X8_30 rfl rfl dX8_term_32) q628 ⟨by show 8 + 1 ≤ qf + 11; omega, by show 8 + (2 + 11) + (200) ≤ ql + 265; omega⟩ hl.1 (Nat.le_of_ble_eq_true rfl) dX8_term_32 h (fun z hz => w_X8_take B.2.2.2.2.1 B.2.2.2.2.2 hu0 hz) (fun σ26 τ26 x27 ad26 H locs cl sl g26 hS B h => ?_)
        have G := G.trans g26
        have ea28 := g26.ad hu0
        replace hu0 := g26.sh hu0
        have ea29 := g26.ad hu1
        replace hu1 := g26.sh hu1
        replace hl : lv_has ls 3 [(0, .ref (ad26 u0)), (1, .ref (ad26 u1))] := by rw [ea28, ea29]; exact hl
        refine lv_istore_n (lv' := [(2, .int x27), (0, .ref (ad26 u0)), (1, .ref (ad26 u1))]) hx hb dX8_term_35 rfl hl (by decide) rfl (fun ls hl => ?_)
        refine lv_aload_n hx hb dX8_term_36 rfl (lv_at hl 2 rfl) ?_
        refine lv_iload_n hx hb dX8_term_37 rfl (lv_at hl 0 rfl) ?_
        refine lv_aload_n hx hb dX8_term_38 rfl (lv_at hl 1 rfl) ?_
        refine a_call (av := [.ref (ad26 u0)]) (rest := [.int x27, .ref (ad26 u1)]) Z hex hS B G (en_V (rest := [.int x27, .ref (ad26 u1)]) Z hS hu0 rfl v_X8_117 rfl rfl dX8_term_39) q743 ⟨by show qf + 10 + 1 ≤ qf + 11; omega, by show 8 + (3 + 11) + (ql + 243) ≤ ql + 265; omega⟩ hl.1 (Nat.le_of_ble_eq_true rfl) dX8_term_39 h (fun z hz => w_X8_atom_b hrec B.2.2.2.2.1 B.2.2.2.2.2 hu0 hz) (fun σ30 τ30 j31 ad30 H locs cl sl g30 hS B h => ?_)
        have G := G.trans g30
        obtain ⟨hj31, h⟩ := gd_el h
        replace hj31 := isSh_m hj31
        have ea32 := g30.ad hu0
        replace hu0 := g30.sh hu0
        have ea33 := g30.ad hu1
        replace hu1 := g30.sh hu1
        replace hl : lv_has ls 3 [(2, .int x27), (0, .ref (ad30 u0)), (1, .ref (ad30 u1))] := by rw [ea32, ea33]; exact hl
        refine W_stk (st' := [.ref (ad30 j31), .int x27, .ref (ad30 u1)]) (by first | (rw [ea33]; done) | (rw [ea33]; rfl)) ?_
        refine a_call (av := [.ref (ad30 u1), .int x27, .ref (ad30 j31)]) (rest := []) Z hex hS B G (en_V (rest := []) Z hS hu1 rfl v_X8_113 rfl rfl dX8_term_42) q793 ⟨by show 2 + 1 ≤ qf + 11; omega, by show 8 + (4 + 11) + (34) ≤ ql + 265; omega⟩ hl.1 (Nat.le_of_ble_eq_true rfl) dX8_term_42 h (fun z hz => w_X13_add B.2.2.2.2.1 B.2.2.2.2.2 hu1 hj31 hz) (fun σ34 τ34 _ ad34 H locs cl sl g34 hS B h => ?_)
        have G := G.trans g34
        have ea35 := g34.ad hu0
        replace hu0 := g34.sh hu0
        have ea36 := g34.ad hu1
        replace hu1 := g34.sh hu1
        replace hl : lv_has ls 3 [(2, .int x27), (0, .ref (ad34 u0)), (1, .ref (ad34 u1))] := by rw [ea35, ea36]; exact hl
        refine lv_goto (tgt := 12) hx hb dX8_term_45 (by decide) ?_
        exact ih _ _ _ _ _ _ _ _ G hu0 hu1 hS B (lv_sub hl [1, 2] rfl) h
set_option maxRecDepth 100000 in
set_option maxHeartbeats 4000000 in
theorem w_X8_term_b {rec : Mem → Shp → Nat → Option (Rs Nat)} {qf ql : Nat} (hrec : ∀ {σ : Mem} {τ : Shp} {ad : Nat → Nat} {i0 : Nat} (_ : sC τ ≤ LCl) (_ : sL τ ≤ LSl) (_ : sS τ i0 = (15, 0)) {r : Rs Nat}, rec σ τ i0 = some r → Mg l yX8_sum (ws_ yX8_sum cX8_sum 3 (some (.object "ClogHouse$Sum"))) (rmA qf ql τ) (va_Pc [.ref (ad i0)] (PreG D (Ew D A) A ad (sS τ) σ)) (QR D A ad τ vN r) A) {i0 : Nat} (hc0 : sC τ ≤ LCl) (hs0 : sL τ ≤ LSl) (hi0 : sS τ i0 = (15, 0)) {r : (Rs Nat)} (h : f_X8_term_b rec σ τ i0 = some r) : Mg l yX8_term (ws_ yX8_term cX8_term 3 (some (.object "ClogHouse$Sum"))) (rmA (qf + 11) (ql + 265) τ) (va_Pc [.ref (ad i0)] (PreG D (Ew D A) A ad (sS τ) σ)) (QR D A ad τ vN r) A := by
  refine a_met hc0 hs0 (by decide) (Nat.le_of_ble_eq_true rfl) (fun p e s m args below meth c ls Z hnm hex hS B G hl => ?_)
  have hx := Z.1
  have hb := Z.2.1
  have hown := Z.2.2.2.2.2.1
  have hts := Z.2.2.2.2.2.2.1
  refine (?_ : ∀ cl sl, Bd (sC τ) (sL τ) (rmA (qf + 11) (ql + 265) τ) τ cl sl → W p l e (rmA (qf + 11) (ql + 265) τ) s m args below meth c s.heap [] cl sl (GQ below (QR D A ad τ vN r) args s A) (F0 m 0 ls [])) 0 0 B
  clear B
  intro cl sl B
  unfold f_X8_term_b at h
  refine a_newD Z hS B cls_8 dv_8 nc_8 q734 q735 q97 dX8_term_0 h (fun ad1 σ1 τ1 j2 H ga gb gc hj2 hS B h => ?_)
  have g1 : Gx τ ad τ1 ad1 := ⟨ga, gb, gc⟩
  have G := G.trans g1
  generalize cl + 1 = cl at B ⊢
  generalize sl + 3 = sl at B ⊢
  have ea3 := g1.ad hi0
  replace hi0 := g1.sh hi0
  replace hl : lv_has ls 3 [(0, .ref (ad1 i0))] := by rw [ea3]; exact hl
  refine lv_dup hx hb dX8_term_3 rfl ?_
  refine lv_aload_n hx hb dX8_term_4 rfl (lv_at hl 0 rfl) ?_
  refine a_call (av := [.ref (ad1 i0)]) (rest := [.ref (ad1 j2), .ref (ad1 j2)]) Z hex hS B G (en_V (rest := [.ref (ad1 j2), .ref (ad1 j2)]) Z hS hi0 rfl v_X8_117 rfl rfl dX8_term_5) q743 ⟨by show qf + 10 + 1 ≤ qf + 11; omega, by show 8 + (3 + 11) + (ql + 243) ≤ ql + 265; omega⟩ hl.1 (Nat.le_of_ble_eq_true rfl) dX8_term_5 h (fun z hz => w_X8_atom_b hrec B.2.2.2.2.1 B.2.2.2.2.2 hi0 hz) (fun σ4 τ4 j5 ad4 H locs cl sl g4 hS B h => ?_)
  have G := G.trans g4
  obtain ⟨hj5, h⟩ := gd_el h
  replace hj5 := isSh_m hj5
  have ea6 := g4.ad hi0
  replace hi0 := g4.sh hi0
  have ea7 := g4.ad hj2
  replace hj2 := g4.sh hj2
  replace hl : lv_has ls 3 [(0, .ref (ad4 i0))] := by rw [ea6]; exact hl
  refine W_stk (st' := [.ref (ad4 j5), .ref (ad4 j2), .ref (ad4 j2)]) (by first | (rw [ea7]; done) | (rw [ea7]; rfl)) ?_
  refine h_cm hS h (fun z hz => h_rI (rest := [.ref (ad4 j2)]) Z hS vc_X8_110 (w_X13_init hj2 hj5 hz) rfl rfl ⟨by show 2 + 1 ≤ qf + 11; omega, by show 8 + (2 + 11) + (32) ≤ ql + 265; omega⟩ rfl hl.1 rfl (Nat.le_of_ble_eq_true rfl) B.cl B.sl dX8_term_8) (fun σ8 H locs hS h => ?_)
  refine lv_astore_n (lv' := [(1, .ref (ad4 j2)), (0, .ref (ad4 i0))]) hx hb dX8_term_11 rfl hl (by decide) rfl (fun ls hl => ?_)
  refine w_X8_term_b_L12 hrec Z hex (fun σ37 τ37 ad37 cl sl H locs ls G hj2 hS B hl h => ?_) FU _ _ _ _ _ _ _ _ G hi0 hj2 hS B (lv_sub hl [1, 0] rfl) h
  refine lv_aload_n hx hb dX8_term_48 rfl (lv_at hl 0 rfl) ?_
  exact a_aret Z hS B G dX8_term_49 h
end
theorem dX8_sum_0 : decode cX8_sum 0 = .ok (.new 105, 3) := by decide +kernel
theorem dX8_sum_3 : decode cX8_sum 3 = .ok (.dup, 1) := by decide +kernel
theorem dX8_sum_4 : decode cX8_sum 4 = .ok (.aload_n 0, 1) := by decide +kernel
theorem dX8_sum_5 : decode cX8_sum 5 = .ok (.invokevirtual 107, 3) := by decide +kernel
theorem dX8_sum_8 : decode cX8_sum 8 = .ok (.invokespecial 110, 3) := by decide +kernel
theorem dX8_sum_11 : decode cX8_sum 11 = .ok (.astore_n 1, 1) := by decide +kernel
theorem dX8_sum_12 : decode cX8_sum 12 = .ok (.aload_n 0, 1) := by decide +kernel
theorem dX8_sum_13 : decode cX8_sum 13 = .ok (.invokevirtual 34, 3) := by decide +kernel
theorem dX8_sum_16 : decode cX8_sum 16 = .ok (.bipush 43, 2) := by decide +kernel
theorem dX8_sum_18 : decode cX8_sum 18 = .ok (.if_icmp .eq 12, 3) := by decide +kernel
theorem dX8_sum_21 : decode cX8_sum 21 = .ok (.aload_n 0, 1) := by decide +kernel
theorem dX8_sum_22 : decode cX8_sum 22 = .ok (.invokevirtual 34, 3) := by decide +kernel
theorem dX8_sum_25 : decode cX8_sum 25 = .ok (.bipush 45, 2) := by decide +kernel
theorem dX8_sum_27 : decode cX8_sum 27 = .ok (.if_icmp .ne 21, 3) := by decide +kernel
theorem dX8_sum_30 : decode cX8_sum 30 = .ok (.aload_n 0, 1) := by decide +kernel
theorem dX8_sum_31 : decode cX8_sum 31 = .ok (.iconst 1, 1) := by decide +kernel
theorem dX8_sum_32 : decode cX8_sum 32 = .ok (.invokevirtual 30, 3) := by decide +kernel
theorem dX8_sum_35 : decode cX8_sum 35 = .ok (.istore_n 2, 1) := by decide +kernel
theorem dX8_sum_36 : decode cX8_sum 36 = .ok (.aload_n 1, 1) := by decide +kernel
theorem dX8_sum_37 : decode cX8_sum 37 = .ok (.iload_n 2, 1) := by decide +kernel
theorem dX8_sum_38 : decode cX8_sum 38 = .ok (.aload_n 0, 1) := by decide +kernel
theorem dX8_sum_39 : decode cX8_sum 39 = .ok (.invokevirtual 107, 3) := by decide +kernel
theorem dX8_sum_42 : decode cX8_sum 42 = .ok (.invokevirtual 113, 3) := by decide +kernel
theorem dX8_sum_45 : decode cX8_sum 45 = .ok (.goto (-33), 3) := by decide +kernel
theorem dX8_sum_48 : decode cX8_sum 48 = .ok (.aload_n 1, 1) := by decide +kernel
theorem dX8_sum_49 : decode cX8_sum 49 = .ok (.areturn, 1) := by decide +kernel
section
variable {p : Program} {l : Launch} {e : Env} {s : State} {m : MethodId} {args : Array Value} {below : List Frame} {meth : Method} {c : Code} {D : gD} {A : Nat → Prop} {ad : Nat → Nat} {τ : Shp} {σ : Mem}
set_option maxRecDepth 100000 in
set_option maxHeartbeats 4000000 in
theorem w_X8_sum_b_L12 {rec : Mem → Shp → Nat → Option (Rs Nat)} {qf ql : Nat} (hrec : ∀ {σ : Mem} {τ : Shp} {ad : Nat → Nat} {i0 : Nat} (_ : sC τ ≤ LCl) (_ : sL τ ≤ LSl) (_ : sS τ i0 = (15, 0)) {r : Rs Nat}, rec σ τ i0 = some r → Mg l yX8_sum (ws_ yX8_sum cX8_sum 3 (some (.object "ClogHouse$Sum"))) (rmA qf ql τ) (va_Pc [.ref (ad i0)] (PreG D (Ew D A) A ad (sS τ) σ)) (QR D A ad τ vN r) A) (Z : Cz D (Ew D A) A cX8_sum 3 (some (.object "ClogHouse$Sum")) RX8 p s m args meth c) (hex : c.exceptionTable.toList.map (fun h => (h.startPc, h.endPc, h.handlerPc, h.catchType)) = []) {u0 : Nat} {u1 : Nat} {r : (Rs Nat)} {k48 : Mem → Shp → Option (Rs Nat)}
    (hk48 : ∀ (σ : Mem) (τ1 : Shp)  (ad1 : Nat → Nat) (cl sl : Nat) (H : Heap) (locs : List Loc) (ls : Array Slot), Gx τ ad τ1 ad1 → ∀ (_ : sS τ1 u1 = (18, 0)), St D A ad1 (sS τ1) σ s.heap H locs → Bd (sC τ) (sL τ) (rmA (qf + 12) (ql + 287) τ) τ1 cl sl → lv_has ls 3 [(1, .ref (ad1 u1))] → k48 σ τ1 = some r → W p l e (rmA (qf + 12) (ql + 287) τ) s m args below meth c H locs cl sl (GQ below (QR D A ad τ vN r) args s A) (F0 m 48 ls [])) :
    ∀ (n : Nat) (σ : Mem) (τ1 : Shp)  (ad1 : Nat → Nat) (cl sl : Nat) (H : Heap) (locs : List Loc) (ls : Array Slot), Gx τ ad τ1 ad1 → ∀ (hu0 : sS τ1 u0 = (15, 0)) (hu1 : sS τ1 u1 = (18, 0)), St D A ad1 (sS τ1) σ s.heap H locs → Bd (sC τ) (sL τ) (rmA (qf + 12) (ql + 287) τ) τ1 cl sl → lv_has ls 3 [(0, .ref (ad1 u0)), (1, .ref (ad1 u1))] → f_X8_sum_b_L12 rec k48 u0 u1 n σ τ1 = some r → W p l e (rmA (qf + 12) (ql + 287) τ) s m args below meth c H locs cl sl (GQ below (QR D A ad τ vN r) args s A) (F0 m 12 ls []) := by
  have hx := Z.1
  have hb := Z.2.1
  have hown := Z.2.2.2.2.2.1
  have hts := Z.2.2.2.2.2.2.1
  intro n
  induction n with
  | zero => intro σ τ1  ad1 cl sl H locs ls G hu0 hu1 hS B hl h; cases h
  | succ n ih =>
    intro σ τ1  ad1 cl sl H locs ls G hu0 hu1 hS B hl h
    unfold f_X8_sum_b_L12 at h
    refine lv_aload_n hx hb dX8_sum_12 rfl (lv_at hl 0 rfl) ?_
    refine h_cim hS h (fun z hz => h_rV (rest := []) Z hS hu0 rfl v_X8_34 (w_X8_look hu0 hz) rfl rfl ⟨by show 0 + 1 ≤ qf + 12; omega, by show 8 + (1 + 11) + (0) ≤ ql + 287; omega⟩ rfl hl.1 rfl (Nat.le_of_ble_eq_true rfl) B.cl B.sl dX8_sum_13) (fun σ9 x10 H locs hS h => ?_)
    refine lv_bipush (v := (43 : Int32)) hx hb dX8_sum_16 (by decide) ?_
    refine lv_icmp_eq (tgt := 30) hx hb dX8_sum_18 (by decide) (fun c11 => ?_) (fun c11 => ?_)
    · have h := if_t h c11
      refine lv_aload_n hx hb dX8_sum_30 rfl (lv_at hl 0 rfl) ?_
      refine lv_iconst (v := (1 : Int32)) hx hb dX8_sum_31 (by decide) ?_
      refine a_call (av := [.ref (ad1 u0), .int (1 : Int32)]) (rest := []) Z hex hS B G (en_V (rest := []) Z hS hu0 rfl v_X8_30 rfl rfl dX8_sum_32) q628 ⟨by show 8 + 1 ≤ qf + 12; omega, by show 8 + (2 + 11) + (200) ≤ ql + 287; omega⟩ hl.1 (Nat.le_of_ble_eq_true rfl) dX8_sum_32 h (fun z hz => w_X8_take B.2.2.2.2.1 B.2.2.2.2.2 hu0 hz) (fun σ12 τ12 x13 ad12 H locs cl sl g12 hS B h => ?_)
      have G := G.trans g12
      have ea14 := g12.ad hu0
      replace hu0 := g12.sh hu0
      have ea15 := g12.ad hu1
      replace hu1 := g12.sh hu1
      replace hl : lv_has ls 3 [(0, .ref (ad12 u0)), (1, .ref (ad12 u1))] := by rw [ea14, ea15]; exact hl
      refine lv_istore_n (lv' := [(2, .int x13), (0, .ref (ad12 u0)), (1, .ref (ad12 u1))]) hx hb dX8_sum_35 rfl hl (by decide) rfl (fun ls hl => ?_)
      refine lv_aload_n hx hb dX8_sum_36 rfl (lv_at hl 2 rfl) ?_
      refine lv_iload_n hx hb dX8_sum_37 rfl (lv_at hl 0 rfl) ?_
      refine lv_aload_n hx hb dX8_sum_38 rfl (lv_at hl 1 rfl) ?_
      refine a_call (av := [.ref (ad12 u0)]) (rest := [.int x13, .ref (ad12 u1)]) Z hex hS B G (en_V (rest := [.int x13, .ref (ad12 u1)]) Z hS hu0 rfl v_X8_107 rfl rfl dX8_sum_39) q739 ⟨by show qf + 11 + 1 ≤ qf + 12; omega, by show 8 + (3 + 11) + (ql + 265) ≤ ql + 287; omega⟩ hl.1 (Nat.le_of_ble_eq_true rfl) dX8_sum_39 h (fun z hz => w_X8_term_b hrec B.2.2.2.2.1 B.2.2.2.2.2 hu0 hz) (fun σ16 τ16 j17 ad16 H locs cl sl g16 hS B h => ?_)
      have G := G.trans g16
      obtain ⟨hj17, h⟩ := gd_el h
      replace hj17 := isSh_m hj17
      have ea18 := g16.ad hu0
      replace hu0 := g16.sh hu0
      have ea19 := g16.ad hu1
      replace hu1 := g16.sh hu1
      replace hl : lv_has ls 3 [(2, .int x13), (0, .ref (ad16 u0)), (1, .ref (ad16 u1))] := by rw [ea18, ea19]; exact hl
      refine W_stk (st' := [.ref (ad16 j17), .int x13, .ref (ad16 u1)]) (by first | (rw [ea19]; done) | (rw [ea19]; rfl)) ?_
      refine a_call (av := [.ref (ad16 u1), .int x13, .ref (ad16 j17)]) (rest := []) Z hex hS B G (en_V (rest := []) Z hS hu1 rfl v_X8_113 rfl rfl dX8_sum_42) q793 ⟨by show 2 + 1 ≤ qf + 12; omega, by show 8 + (4 + 11) + (34) ≤ ql + 287; omega⟩ hl.1 (Nat.le_of_ble_eq_true rfl) dX8_sum_42 h (fun z hz => w_X13_add B.2.2.2.2.1 B.2.2.2.2.2 hu1 hj17 hz) (fun σ20 τ20 _ ad20 H locs cl sl g20 hS B h => ?_)
      have G := G.trans g20
      have ea21 := g20.ad hu0
      replace hu0 := g20.sh hu0
      have ea22 := g20.ad hu1
      replace hu1 := g20.sh hu1
      replace hl : lv_has ls 3 [(2, .int x13), (0, .ref (ad20 u0)), (1, .ref (ad20 u1))] := by rw [ea21, ea22]; exact hl
      refine lv_goto (tgt := 12) hx hb dX8_sum_45 (by decide) ?_
      exact ih _ _ _ _ _ _ _ _ G hu0 hu1 hS B (lv_sub hl [1, 2] rfl) h
    · have h := if_f h c11
      refine lv_aload_n hx hb dX8_sum_21 rfl (lv_at hl 0 rfl) ?_
      refine h_cim hS h (fun z hz => h_rV (rest := []) Z hS hu0 rfl v_X8_34 (w_X8_look hu0 hz) rfl rfl ⟨by show 0 + 1 ≤ qf + 12; omega, by show 8 + (1 + 11) + (0) ≤ ql + 287; omega⟩ rfl hl.1 rfl (Nat.le_of_ble_eq_true rfl) B.cl B.sl dX8_sum_22) (fun σ23 x24 H locs hS h => ?_)
      refine lv_bipush (v := (45 : Int32)) hx hb dX8_sum_25 (by decide) ?_
      refine lv_icmp_ne (tgt := 48) hx hb dX8_sum_27 (by decide) (fun c25 => ?_) (fun c25 => ?_)
      · have h := if_f h c25
        exact hk48 _ _ _ _ _ _ _ _ G hu1 hS B (lv_sub hl [1] rfl) h
      · have h := if_t h c25
        refine lv_aload_n hx hb dX8_sum_30 rfl (lv_at hl 0 rfl) ?_
        refine lv_iconst (v := (1 : Int32)) hx hb dX8_sum_31 (by decide) ?_
        refine a_call (av := [.ref (ad1 u0), .int (1 : Int32)]) (rest := []) Z hex hS B G (en_V (rest := []) Z hS hu0 rfl v_X8_30 rfl rfl dX8_sum_32) q628 ⟨by show 8 + 1 ≤ qf + 12; omega, by show 8 + (2 + 11) + (200) ≤ ql + 287; omega⟩ hl.1 (Nat.le_of_ble_eq_true rfl) dX8_sum_32 h (fun z hz => w_X8_take B.2.2.2.2.1 B.2.2.2.2.2 hu0 hz) (fun σ26 τ26 x27 ad26 H locs cl sl g26 hS B h => ?_)
        have G := G.trans g26
        have ea28 := g26.ad hu0
        replace hu0 := g26.sh hu0
        have ea29 := g26.ad hu1
        replace hu1 := g26.sh hu1
        replace hl : lv_has ls 3 [(0, .ref (ad26 u0)), (1, .ref (ad26 u1))] := by rw [ea28, ea29]; exact hl
        refine lv_istore_n (lv' := [(2, .int x27), (0, .ref (ad26 u0)), (1, .ref (ad26 u1))]) hx hb dX8_sum_35 rfl hl (by decide) rfl (fun ls hl => ?_)
        refine lv_aload_n hx hb dX8_sum_36 rfl (lv_at hl 2 rfl) ?_
        refine lv_iload_n hx hb dX8_sum_37 rfl (lv_at hl 0 rfl) ?_
        refine lv_aload_n hx hb dX8_sum_38 rfl (lv_at hl 1 rfl) ?_
        refine a_call (av := [.ref (ad26 u0)]) (rest := [.int x27, .ref (ad26 u1)]) Z hex hS B G (en_V (rest := [.int x27, .ref (ad26 u1)]) Z hS hu0 rfl v_X8_107 rfl rfl dX8_sum_39) q739 ⟨by show qf + 11 + 1 ≤ qf + 12; omega, by show 8 + (3 + 11) + (ql + 265) ≤ ql + 287; omega⟩ hl.1 (Nat.le_of_ble_eq_true rfl) dX8_sum_39 h (fun z hz => w_X8_term_b hrec B.2.2.2.2.1 B.2.2.2.2.2 hu0 hz) (fun σ30 τ30 j31 ad30 H locs cl sl g30 hS B h => ?_)
        have G := G.trans g30
        obtain ⟨hj31, h⟩ := gd_el h
        replace hj31 := isSh_m hj31
        have ea32 := g30.ad hu0
        replace hu0 := g30.sh hu0
        have ea33 := g30.ad hu1
        replace hu1 := g30.sh hu1
        replace hl : lv_has ls 3 [(2, .int x27), (0, .ref (ad30 u0)), (1, .ref (ad30 u1))] := by rw [ea32, ea33]; exact hl
        refine W_stk (st' := [.ref (ad30 j31), .int x27, .ref (ad30 u1)]) (by first | (rw [ea33]; done) | (rw [ea33]; rfl)) ?_
        refine a_call (av := [.ref (ad30 u1), .int x27, .ref (ad30 j31)]) (rest := []) Z hex hS B G (en_V (rest := []) Z hS hu1 rfl v_X8_113 rfl rfl dX8_sum_42) q793 ⟨by show 2 + 1 ≤ qf + 12; omega, by show 8 + (4 + 11) + (34) ≤ ql + 287; omega⟩ hl.1 (Nat.le_of_ble_eq_true rfl) dX8_sum_42 h (fun z hz => w_X13_add B.2.2.2.2.1 B.2.2.2.2.2 hu1 hj31 hz) (fun σ34 τ34 _ ad34 H locs cl sl g34 hS B h => ?_)
        have G := G.trans g34
        have ea35 := g34.ad hu0
        replace hu0 := g34.sh hu0
        have ea36 := g34.ad hu1
        replace hu1 := g34.sh hu1
        replace hl : lv_has ls 3 [(2, .int x27), (0, .ref (ad34 u0)), (1, .ref (ad34 u1))] := by rw [ea35, ea36]; exact hl
        refine lv_goto (tgt := 12) hx hb dX8_sum_45 (by decide) ?_
        exact ih _ _ _ _ _ _ _ _ G hu0 hu1 hS B (lv_sub hl [1, 2] rfl) h
set_option maxRecDepth 100000 in
set_option maxHeartbeats 4000000 in
theorem w_X8_sum_b {rec : Mem → Shp → Nat → Option (Rs Nat)} {qf ql : Nat} (hrec : ∀ {σ : Mem} {τ : Shp} {ad : Nat → Nat} {i0 : Nat} (_ : sC τ ≤ LCl) (_ : sL τ ≤ LSl) (_ : sS τ i0 = (15, 0)) {r : Rs Nat}, rec σ τ i0 = some r → Mg l yX8_sum (ws_ yX8_sum cX8_sum 3 (some (.object "ClogHouse$Sum"))) (rmA qf ql τ) (va_Pc [.ref (ad i0)] (PreG D (Ew D A) A ad (sS τ) σ)) (QR D A ad τ vN r) A) {i0 : Nat} (hc0 : sC τ ≤ LCl) (hs0 : sL τ ≤ LSl) (hi0 : sS τ i0 = (15, 0)) {r : (Rs Nat)} (h : f_X8_sum_b rec σ τ i0 = some r) : Mg l yX8_sum (ws_ yX8_sum cX8_sum 3 (some (.object "ClogHouse$Sum"))) (rmA (qf + 12) (ql + 287) τ) (va_Pc [.ref (ad i0)] (PreG D (Ew D A) A ad (sS τ) σ)) (QR D A ad τ vN r) A := by
  refine a_met hc0 hs0 (by decide) (Nat.le_of_ble_eq_true rfl) (fun p e s m args below meth c ls Z hnm hex hS B G hl => ?_)
  have hx := Z.1
  have hb := Z.2.1
  have hown := Z.2.2.2.2.2.1
  have hts := Z.2.2.2.2.2.2.1
  refine (?_ : ∀ cl sl, Bd (sC τ) (sL τ) (rmA (qf + 12) (ql + 287) τ) τ cl sl → W p l e (rmA (qf + 12) (ql + 287) τ) s m args below meth c s.heap [] cl sl (GQ below (QR D A ad τ vN r) args s A) (F0 m 0 ls [])) 0 0 B
  clear B
  intro cl sl B
  unfold f_X8_sum_b at h
  refine a_newD Z hS B cls_8 dv_8 nc_8 q734 q735 q97 dX8_sum_0 h (fun ad1 σ1 τ1 j2 H ga gb gc hj2 hS B h => ?_)
  have g1 : Gx τ ad τ1 ad1 := ⟨ga, gb, gc⟩
  have G := G.trans g1
  generalize cl + 1 = cl at B ⊢
  generalize sl + 3 = sl at B ⊢
  have ea3 := g1.ad hi0
  replace hi0 := g1.sh hi0
  replace hl : lv_has ls 3 [(0, .ref (ad1 i0))] := by rw [ea3]; exact hl
  refine lv_dup hx hb dX8_sum_3 rfl ?_
  refine lv_aload_n hx hb dX8_sum_4 rfl (lv_at hl 0 rfl) ?_
  refine a_call (av := [.ref (ad1 i0)]) (rest := [.ref (ad1 j2), .ref (ad1 j2)]) Z hex hS B G (en_V (rest := [.ref (ad1 j2), .ref (ad1 j2)]) Z hS hi0 rfl v_X8_107 rfl rfl dX8_sum_5) q739 ⟨by show qf + 11 + 1 ≤ qf + 12; omega, by show 8 + (3 + 11) + (ql + 265) ≤ ql + 287; omega⟩ hl.1 (Nat.le_of_ble_eq_true rfl) dX8_sum_5 h (fun z hz => w_X8_term_b hrec B.2.2.2.2.1 B.2.2.2.2.2 hi0 hz) (fun σ4 τ4 j5 ad4 H locs cl sl g4 hS B h => ?_)
  have G := G.trans g4
  obtain ⟨hj5, h⟩ := gd_el h
  replace hj5 := isSh_m hj5
  have ea6 := g4.ad hi0
  replace hi0 := g4.sh hi0
  have ea7 := g4.ad hj2
  replace hj2 := g4.sh hj2
  replace hl : lv_has ls 3 [(0, .ref (ad4 i0))] := by rw [ea6]; exact hl
  refine W_stk (st' := [.ref (ad4 j5), .ref (ad4 j2), .ref (ad4 j2)]) (by first | (rw [ea7]; done) | (rw [ea7]; rfl)) ?_
  refine h_cm hS h (fun z hz => h_rI (rest := [.ref (ad4 j2)]) Z hS vc_X8_110 (w_X13_init hj2 hj5 hz) rfl rfl ⟨by show 2 + 1 ≤ qf + 12; omega, by show 8 + (2 + 11) + (32) ≤ ql + 287; omega⟩ rfl hl.1 rfl (Nat.le_of_ble_eq_true rfl) B.cl B.sl dX8_sum_8) (fun σ8 H locs hS h => ?_)
  refine lv_astore_n (lv' := [(1, .ref (ad4 j2)), (0, .ref (ad4 i0))]) hx hb dX8_sum_11 rfl hl (by decide) rfl (fun ls hl => ?_)
  refine w_X8_sum_b_L12 hrec Z hex (fun σ37 τ37 ad37 cl sl H locs ls G hj2 hS B hl h => ?_) FU _ _ _ _ _ _ _ _ G hi0 hj2 hS B (lv_sub hl [1, 0] rfl) h
  refine lv_aload_n hx hb dX8_sum_48 rfl (lv_at hl 0 rfl) ?_
  exact a_aret Z hS B G dX8_sum_49 h
def rmr_X8_sum : Nat → Nat × Nat
 | 0 => (0, 0)
 | d + 1 => ((rmr_X8_sum d).1 + 12, (rmr_X8_sum d).2 + 287)
theorem w_X8_sum : ∀ (d : Nat) {σ : Mem} {τ : Shp} {ad : Nat → Nat} {i0 : Nat} (_ : sC τ ≤ LCl) (_ : sL τ ≤ LSl) (hi0 : sS τ i0 = (15, 0)) {r : (Rs Nat)}, f_X8_sum d σ τ i0 = some r → Mg l yX8_sum (ws_ yX8_sum cX8_sum 3 (some (.object "ClogHouse$Sum"))) (rmA (rmr_X8_sum d).1 (rmr_X8_sum d).2 τ) (va_Pc [.ref (ad i0)] (PreG D (Ew D A) A ad (sS τ) σ)) (QR D A ad τ vN r) A := by
  intro d
  induction d with
  | zero => intro σ τ ad i0 h1 h2 hi0 r h; cases h
  | succ d ih => intro σ τ ad i0 h1 h2 hi0 r h; exact w_X8_sum_b (qf := (rmr_X8_sum d).1) (ql := (rmr_X8_sum d).2) ih h1 h2 hi0 h
end
theorem dX8_part_0 : decode cX8_part 0 = .ok (.new 75, 3) := by decide +kernel
theorem dX8_part_3 : decode cX8_part 3 = .ok (.dup, 1) := by decide +kernel
theorem dX8_part_4 : decode cX8_part 4 = .ok (.iconst 1, 1) := by decide +kernel
theorem dX8_part_5 : decode cX8_part 5 = .ok (.aload_n 0, 1) := by decide +kernel
theorem dX8_part_6 : decode cX8_part 6 = .ok (.aload_n 1, 1) := by decide +kernel
theorem dX8_part_7 : decode cX8_part 7 = .ok (.invokevirtual 86, 3) := by decide +kernel
theorem dX8_part_10 : decode cX8_part 10 = .ok (.invokespecial 80, 3) := by decide +kernel
theorem dX8_part_13 : decode cX8_part 13 = .ok (.astore_n 2, 1) := by decide +kernel
theorem dX8_part_14 : decode cX8_part 14 = .ok (.aload_n 2, 1) := by decide +kernel
theorem dX8_part_15 : decode cX8_part 15 = .ok (.astore_n 3, 1) := by decide +kernel
theorem dX8_part_16 : decode cX8_part 16 = .ok (.aload_n 0, 1) := by decide +kernel
theorem dX8_part_17 : decode cX8_part 17 = .ok (.invokevirtual 34, 3) := by decide +kernel
theorem dX8_part_20 : decode cX8_part 20 = .ok (.bipush 38, 2) := by decide +kernel
theorem dX8_part_22 : decode cX8_part 22 = .ok (.if_icmp .ne 38, 3) := by decide +kernel
theorem dX8_part_25 : decode cX8_part 25 = .ok (.aload_n 0, 1) := by decide +kernel
theorem dX8_part_26 : decode cX8_part 26 = .ok (.dup, 1) := by decide +kernel
theorem dX8_part_27 : decode cX8_part 27 = .ok (.getfield 19, 3) := by decide +kernel
theorem dX8_part_30 : decode cX8_part 30 = .ok (.iconst 1, 1) := by decide +kernel
theorem dX8_part_31 : decode cX8_part 31 = .ok (.iadd, 1) := by decide +kernel
theorem dX8_part_32 : decode cX8_part 32 = .ok (.putfield 19, 3) := by decide +kernel
theorem dX8_part_35 : decode cX8_part 35 = .ok (.aload_n 3, 1) := by decide +kernel
theorem dX8_part_36 : decode cX8_part 36 = .ok (.new 75, 3) := by decide +kernel
theorem dX8_part_39 : decode cX8_part 39 = .ok (.dup, 1) := by decide +kernel
theorem dX8_part_40 : decode cX8_part 40 = .ok (.iconst 1, 1) := by decide +kernel
theorem dX8_part_41 : decode cX8_part 41 = .ok (.aload_n 0, 1) := by decide +kernel
theorem dX8_part_42 : decode cX8_part 42 = .ok (.aconst_null, 1) := by decide +kernel
theorem dX8_part_43 : decode cX8_part 43 = .ok (.invokevirtual 86, 3) := by decide +kernel
theorem dX8_part_46 : decode cX8_part 46 = .ok (.invokespecial 80, 3) := by decide +kernel
theorem dX8_part_49 : decode cX8_part 49 = .ok (.putfield 83, 3) := by decide +kernel
theorem dX8_part_52 : decode cX8_part 52 = .ok (.aload_n 3, 1) := by decide +kernel
theorem dX8_part_53 : decode cX8_part 53 = .ok (.getfield 83, 3) := by decide +kernel
theorem dX8_part_56 : decode cX8_part 56 = .ok (.astore_n 3, 1) := by decide +kernel
theorem dX8_part_57 : decode cX8_part 57 = .ok (.goto (-41), 3) := by decide +kernel
theorem dX8_part_60 : decode cX8_part 60 = .ok (.aload_n 2, 1) := by decide +kernel
theorem dX8_part_61 : decode cX8_part 61 = .ok (.areturn, 1) := by decide +kernel
section
variable {p : Program} {l : Launch} {e : Env} {s : State} {m : MethodId} {args : Array Value} {below : List Frame} {meth : Method} {c : Code} {D : gD} {A : Nat → Prop} {ad : Nat → Nat} {τ : Shp} {σ : Mem}
set_option maxRecDepth 100000 in
set_option maxHeartbeats 4000000 in
theorem w_X8_part_b_L16 {rec : Mem → Shp → Nat → Option Nat → Option (Rs Nat)} {qf ql : Nat} (hrec : ∀ {σ : Mem} {τ : Shp} {ad : Nat → Nat} {i0 : Nat} {a1 : Option Nat} (_ : sC τ ≤ LCl) (_ : sL τ ≤ LSl) (_ : sS τ i0 = (15, 0)) (_ : ∀ t, a1 = some t → sS τ t ∈ [(18, 0), (19, 0), (20, 0)]) {r : Rs Nat}, rec σ τ i0 a1 = some r → Mg l yX8_unit (ws_ yX8_unit cX8_unit 5 (some (.object "ClogHouse$Condition"))) (rmA qf ql τ) (va_Pc [.ref (ad i0), va_rf (a1.map ad)] (PreG D (Ew D A) A ad (sS τ) σ)) (QR D A ad τ vN r) A) (Z : Cz D (Ew D A) A cX8_part 4 (some (.object "ClogHouse$Condition")) RX8 p s m args meth c) (hex : c.exceptionTable.toList.map (fun h => (h.startPc, h.endPc, h.handlerPc, h.catchType)) = []) {u0 : Nat} {u2 : Nat} {r : (Rs Nat)} {k60 : Mem → Shp → Option (Rs Nat)}
    (hk60 : ∀ (σ : Mem) (τ1 : Shp)  (ad1 : Nat → Nat) (cl sl : Nat) (H : Heap) (locs : List Loc) (ls : Array Slot), Gx τ ad τ1 ad1 → ∀ (_ : sS τ1 u2 = (16, 0)), St D A ad1 (sS τ1) σ s.heap H locs → Bd (sC τ) (sL τ) (rmA (qf + 2) (ql + 34) τ) τ1 cl sl → lv_has ls 4 [(2, .ref (ad1 u2))] → k60 σ τ1 = some r → W p l e (rmA (qf + 2) (ql + 34) τ) s m args below meth c H locs cl sl (GQ below (QR D A ad τ vN r) args s A) (F0 m 60 ls [])) :
    ∀ (n : Nat) (σ : Mem) (τ1 : Shp) (v3 : Nat) (ad1 : Nat → Nat) (cl sl : Nat) (H : Heap) (locs : List Loc) (ls : Array Slot), Gx τ ad τ1 ad1 → ∀ (hu0 : sS τ1 u0 = (15, 0)) (hu2 : sS τ1 u2 = (16, 0)) (hv3 : sS τ1 v3 = (16, 0)), St D A ad1 (sS τ1) σ s.heap H locs → Bd (sC τ) (sL τ) (rmA (qf + 2) (ql + 34) τ) τ1 cl sl → lv_has ls 4 [(0, .ref (ad1 u0)), (2, .ref (ad1 u2)), (3, .ref (ad1 v3))] → f_X8_part_b_L16 rec k60 u0 u2 n σ τ1 v3 = some r → W p l e (rmA (qf + 2) (ql + 34) τ) s m args below meth c H locs cl sl (GQ below (QR D A ad τ vN r) args s A) (F0 m 16 ls []) := by
  have hx := Z.1
  have hb := Z.2.1
  have hown := Z.2.2.2.2.2.1
  have hts := Z.2.2.2.2.2.2.1
  intro n
  induction n with
  | zero => intro σ τ1 v3 ad1 cl sl H locs ls G hu0 hu2 hv3 hS B hl h; cases h
  | succ n ih =>
    intro σ τ1 v3 ad1 cl sl H locs ls G hu0 hu2 hv3 hS B hl h
    unfold f_X8_part_b_L16 at h
    refine lv_aload_n hx hb dX8_part_16 rfl (lv_at hl 0 rfl) ?_
    refine h_cim hS h (fun z hz => h_rV (rest := []) Z hS hu0 rfl v_X8_34 (w_X8_look hu0 hz) rfl rfl ⟨by show 0 + 1 ≤ qf + 2; omega, by show 8 + (1 + 11) + (0) ≤ ql + 34; omega⟩ rfl hl.1 rfl (Nat.le_of_ble_eq_true rfl) B.cl B.sl dX8_part_17) (fun σ11 x12 H locs hS h => ?_)
    refine lv_bipush (v := (38 : Int32)) hx hb dX8_part_20 (by decide) ?_
    refine lv_icmp_ne (tgt := 60) hx hb dX8_part_22 (by decide) (fun c13 => ?_) (fun c13 => ?_)
    · have h := if_f h c13
      exact hk60 _ _ _ _ _ _ _ _ G hu2 hS B (lv_sub hl [1] rfl) h
    · have h := if_t h c13
      refine lv_aload_n hx hb dX8_part_25 rfl (lv_at hl 0 rfl) ?_
      refine lv_dup hx hb dX8_part_26 rfl ?_
      refine h_getI Z hS cls_5 hu0 (by decide) rfl fl_X8_19_5 dX8_part_27 h (fun x14 h => ?_)
      refine lv_iconst (v := (1 : Int32)) hx hb dX8_part_30 (by decide) ?_
      refine lv_iadd hx hb dX8_part_31 ?_
      refine h_putI Z hS cls_5 hu0 (by decide) rfl rfl rfl fl_X8_19_5 dX8_part_32 h (fun σ15 H locs hS h => ?_)
      refine lv_aload_n hx hb dX8_part_35 rfl (lv_at hl 2 rfl) ?_
      refine a_newD Z hS B cls_6 dv_6 nc_6 q702 q703 q94 dX8_part_36 h (fun ad16 σ16 τ16 j17 H ga gb gc hj17 hS B h => ?_)
      have g16 : Gx τ1 ad1 τ16 ad16 := ⟨ga, gb, gc⟩
      have G := G.trans g16
      generalize cl + 1 = cl at B ⊢
      generalize sl + 3 = sl at B ⊢
      have ea18 := g16.ad hu0
      replace hu0 := g16.sh hu0
      have ea19 := g16.ad hu2
      replace hu2 := g16.sh hu2
      have ea20 := g16.ad hv3
      replace hv3 := g16.sh hv3
      replace hl : lv_has ls 4 [(0, .ref (ad16 u0)), (2, .ref (ad16 u2)), (3, .ref (ad16 v3))] := by rw [ea18, ea19, ea20]; exact hl
      refine W_stk (st' := [.ref (ad16 j17), .ref (ad16 v3)]) (by first | (rw [ea20]; done) | (rw [ea20]; rfl)) ?_
      refine lv_dup hx hb dX8_part_39 rfl ?_
      refine lv_iconst (v := (1 : Int32)) hx hb dX8_part_40 (by decide) ?_
      refine lv_aload_n hx hb dX8_part_41 rfl (lv_at hl 0 rfl) ?_
      refine lv_null hx hb dX8_part_42 ?_
      refine a_call (av := [.ref (ad16 u0), .null]) (rest := [.int (1 : Int32), .ref (ad16 j17), .ref (ad16 j17), .ref (ad16 v3)]) Z hex hS B G (en_V (rest := [.int (1 : Int32), .ref (ad16 j17), .ref (ad16 j17), .ref (ad16 v3)]) Z hS hu0 rfl v_X8_86 rfl rfl dX8_part_43) q711 ⟨by show qf + 0 + 1 ≤ qf + 2; omega, by show 8 + (5 + 11) + (ql + 0) ≤ ql + 34; omega⟩ hl.1 (Nat.le_of_ble_eq_true rfl) dX8_part_43 h (fun z hz => hrec B.2.2.2.2.1 B.2.2.2.2.2 hu0 (fun t ht => by cases ht) hz) (fun σ21 τ21 j22 ad21 H locs cl sl g21 hS B h => ?_)
      have G := G.trans g21
      obtain ⟨hj22, h⟩ := gd_el h
      replace hj22 := isSh_m hj22
      have ea23 := g21.ad hu0
      replace hu0 := g21.sh hu0
      have ea24 := g21.ad hu2
      replace hu2 := g21.sh hu2
      have ea25 := g21.ad hv3
      replace hv3 := g21.sh hv3
      have ea26 := g21.ad hj17
      replace hj17 := g21.sh hj17
      replace hl : lv_has ls 4 [(0, .ref (ad21 u0)), (2, .ref (ad21 u2)), (3, .ref (ad21 v3))] := by rw [ea23, ea24, ea25]; exact hl
      refine W_stk (st' := [.ref (ad21 j22), .int (1 : Int32), .ref (ad21 j17), .ref (ad21 j17), .ref (ad21 v3)]) (by first | (rw [ea26, ea25]; done) | (rw [ea26, ea25]; rfl)) ?_
      refine h_cm hS h (fun z hz => h_rI (rest := [.ref (ad21 j17), .ref (ad21 v3)]) Z hS vc_X8_80 (w_X10_init hj17 hj22 hz) rfl rfl ⟨by show 1 + 1 ≤ qf + 2; omega, by show 8 + (3 + 11) + (12) ≤ ql + 34; omega⟩ rfl hl.1 rfl (Nat.le_of_ble_eq_true rfl) B.cl B.sl dX8_part_46) (fun σ27 H locs hS h => ?_)
      refine h_putR (v := (some j17)) Z hS cls_6 hv3 (by decide) rfl rfl rfl rfl (fun t ht => by cases ht; rw [hj17]; decide) fl_X8_83_6 dX8_part_49 h (fun σ28 H locs hS h => ?_)
      refine lv_aload_n hx hb dX8_part_52 rfl (lv_at hl 2 rfl) ?_
      refine h_getN (sh := (16, 0)) Z hS cls_6 hv3 (by decide) rfl rfl fl_X8_83_6 dX8_part_53 h (fun j29 hj29 h => ?_)
      refine lv_astore_n (lv' := [(3, .ref (ad21 j29)), (0, .ref (ad21 u0)), (2, .ref (ad21 u2))]) hx hb dX8_part_56 rfl hl (by decide) rfl (fun ls hl => ?_)
      refine lv_goto (tgt := 16) hx hb dX8_part_57 (by decide) ?_
      exact ih _ _ _ _ _ _ _ _ _ G hu0 hu2 hj29 hS B (lv_sub hl [1, 2, 0] rfl) h
set_option maxRecDepth 100000 in
set_option maxHeartbeats 4000000 in
theorem w_X8_part_b {rec : Mem → Shp → Nat → Option Nat → Option (Rs Nat)} {qf ql : Nat} (hrec : ∀ {σ : Mem} {τ : Shp} {ad : Nat → Nat} {i0 : Nat} {a1 : Option Nat} (_ : sC τ ≤ LCl) (_ : sL τ ≤ LSl) (_ : sS τ i0 = (15, 0)) (_ : ∀ t, a1 = some t → sS τ t ∈ [(18, 0), (19, 0), (20, 0)]) {r : Rs Nat}, rec σ τ i0 a1 = some r → Mg l yX8_unit (ws_ yX8_unit cX8_unit 5 (some (.object "ClogHouse$Condition"))) (rmA qf ql τ) (va_Pc [.ref (ad i0), va_rf (a1.map ad)] (PreG D (Ew D A) A ad (sS τ) σ)) (QR D A ad τ vN r) A) {i0 : Nat} {a1 : Option Nat} (hc0 : sC τ ≤ LCl) (hs0 : sL τ ≤ LSl) (hi0 : sS τ i0 = (15, 0)) (ha1 : ∀ t, a1 = some t → sS τ t ∈ [(18, 0), (19, 0), (20, 0)]) {r : (Rs Nat)} (h : f_X8_part_b rec σ τ i0 a1 = some r) : Mg l yX8_part (ws_ yX8_part cX8_part 4 (some (.object "ClogHouse$Condition"))) (rmA (qf + 2) (ql + 34) τ) (va_Pc [.ref (ad i0), va_rf (a1.map ad)] (PreG D (Ew D A) A ad (sS τ) σ)) (QR D A ad τ vN r) A := by
  refine a_met hc0 hs0 (by decide) (by cases a1 <;> exact Nat.le_of_ble_eq_true rfl) (fun p e s m args below meth c ls Z hnm hex hS B G hl => ?_)
  replace hl : lv_has ls 4 [(0, .ref (ad i0)), (1, va_rf (a1.map ad))] := by cases a1 <;> exact hl
  have hx := Z.1
  have hb := Z.2.1
  have hown := Z.2.2.2.2.2.1
  have hts := Z.2.2.2.2.2.2.1
  refine (?_ : ∀ cl sl, Bd (sC τ) (sL τ) (rmA (qf + 2) (ql + 34) τ) τ cl sl → W p l e (rmA (qf + 2) (ql + 34) τ) s m args below meth c s.heap [] cl sl (GQ below (QR D A ad τ vN r) args s A) (F0 m 0 ls [])) 0 0 B
  clear B
  intro cl sl B
  unfold f_X8_part_b at h
  refine a_newD Z hS B cls_6 dv_6 nc_6 q702 q703 q94 dX8_part_0 h (fun ad1 σ1 τ1 j2 H ga gb gc hj2 hS B h => ?_)
  have g1 : Gx τ ad τ1 ad1 := ⟨ga, gb, gc⟩
  have G := G.trans g1
  generalize cl + 1 = cl at B ⊢
  generalize sl + 3 = sl at B ⊢
  have ea3 := g1.ad hi0
  replace hi0 := g1.sh hi0
  have ea4 := g1.adq ha1 (by decide)
  replace ha1 := fun t ht => g1.shm (ha1 t ht) (by decide)
  replace hl : lv_has ls 4 [(0, .ref (ad1 i0)), (1, va_rf (a1.map ad1))] := by rw [ea3, ea4]; exact hl
  refine lv_dup hx hb dX8_part_3 rfl ?_
  refine lv_iconst (v := (1 : Int32)) hx hb dX8_part_4 (by decide) ?_
  refine lv_aload_n hx hb dX8_part_5 rfl (lv_at hl 0 rfl) ?_
  refine h_aldq_n (o := a1) Z dX8_part_6 rfl (lv_at hl 1 rfl) ?_
  refine a_call (av := [.ref (ad1 i0), va_rf (a1.map ad1)]) (rest := [.int (1 : Int32), .ref (ad1 j2), .ref (ad1 j2)]) Z hex hS B G (en_V (rest := [.int (1 : Int32), .ref (ad1 j2), .ref (ad1 j2)]) Z hS hi0 rfl v_X8_86 rfl rfl dX8_part_7) q711 ⟨by show qf + 0 + 1 ≤ qf + 2; omega, by show 8 + (5 + 11) + (ql + 0) ≤ ql + 34; omega⟩ hl.1 (Nat.le_of_ble_eq_true rfl) dX8_part_7 h (fun z hz => hrec B.2.2.2.2.1 B.2.2.2.2.2 hi0 ha1 hz) (fun σ5 τ5 j6 ad5 H locs cl sl g5 hS B h => ?_)
  have G := G.trans g5
  obtain ⟨hj6, h⟩ := gd_el h
  replace hj6 := isSh_m hj6
  have ea7 := g5.ad hi0
  replace hi0 := g5.sh hi0
  have ea8 := g5.adq ha1 (by decide)
  replace ha1 := fun t ht => g5.shm (ha1 t ht) (by decide)
  have ea9 := g5.ad hj2
  replace hj2 := g5.sh hj2
  replace hl : lv_has ls 4 [(0, .ref (ad5 i0)), (1, va_rf (a1.map ad5))] := by rw [ea7, ea8]; exact hl
  refine W_stk (st' := [.ref (ad5 j6), .int (1 : Int32), .ref (ad5 j2), .ref (ad5 j2)]) (by first | (rw [ea9]; done) | (rw [ea9]; rfl)) ?_
  refine h_cm hS h (fun z hz => h_rI (rest := [.ref (ad5 j2)]) Z hS vc_X8_80 (w_X10_init hj2 hj6 hz) rfl rfl ⟨by show 1 + 1 ≤ qf + 2; omega, by show 8 + (3 + 11) + (12) ≤ ql + 34; omega⟩ rfl hl.1 rfl (Nat.le_of_ble_eq_true rfl) B.cl B.sl dX8_part_10) (fun σ10 H locs hS h => ?_)
  refine lv_astore_n (lv' := [(2, .ref (ad5 j2)), (0, .ref (ad5 i0)), (1, va_rf (a1.map ad5))]) hx hb dX8_part_13 rfl hl (by decide) (by cases a1 <;> rfl) (fun ls hl => ?_)
  refine lv_aload_n hx hb dX8_part_14 rfl (lv_at hl 0 rfl) ?_
  refine lv_astore_n (lv' := [(3, .ref (ad5 j2)), (2, .ref (ad5 j2)), (0, .ref (ad5 i0)), (1, va_rf (a1.map ad5))]) hx hb dX8_part_15 rfl hl (by decide) (by cases a1 <;> rfl) (fun ls hl => ?_)
  refine w_X8_part_b_L16 hrec Z hex (fun σ30 τ30 ad30 cl sl H locs ls G hj2 hS B hl h => ?_) FU _ _ _ _ _ _ _ _ _ G hi0 hj2 hj2 hS B (lv_sub hl [2, 1, 0] rfl) h
  refine lv_aload_n hx hb dX8_part_60 rfl (lv_at hl 0 rfl) ?_
  exact a_aret Z hS B G dX8_part_61 h
end
theorem dX8_condition_0 : decode cX8_condition 0 = .ok (.new 75, 3) := by decide +kernel
theorem dX8_condition_3 : decode cX8_condition 3 = .ok (.dup, 1) := by decide +kernel
theorem dX8_condition_4 : decode cX8_condition 4 = .ok (.iconst 0, 1) := by decide +kernel
theorem dX8_condition_5 : decode cX8_condition 5 = .ok (.aload_n 0, 1) := by decide +kernel
theorem dX8_condition_6 : decode cX8_condition 6 = .ok (.aload_n 1, 1) := by decide +kernel
theorem dX8_condition_7 : decode cX8_condition 7 = .ok (.invokevirtual 77, 3) := by decide +kernel
theorem dX8_condition_10 : decode cX8_condition 10 = .ok (.invokespecial 80, 3) := by decide +kernel
theorem dX8_condition_13 : decode cX8_condition 13 = .ok (.astore_n 2, 1) := by decide +kernel
theorem dX8_condition_14 : decode cX8_condition 14 = .ok (.aload_n 2, 1) := by decide +kernel
theorem dX8_condition_15 : decode cX8_condition 15 = .ok (.astore_n 3, 1) := by decide +kernel
theorem dX8_condition_16 : decode cX8_condition 16 = .ok (.aload_n 0, 1) := by decide +kernel
theorem dX8_condition_17 : decode cX8_condition 17 = .ok (.invokevirtual 34, 3) := by decide +kernel
theorem dX8_condition_20 : decode cX8_condition 20 = .ok (.bipush 124, 2) := by decide +kernel
theorem dX8_condition_22 : decode cX8_condition 22 = .ok (.if_icmp .ne 38, 3) := by decide +kernel
theorem dX8_condition_25 : decode cX8_condition 25 = .ok (.aload_n 0, 1) := by decide +kernel
theorem dX8_condition_26 : decode cX8_condition 26 = .ok (.dup, 1) := by decide +kernel
theorem dX8_condition_27 : decode cX8_condition 27 = .ok (.getfield 19, 3) := by decide +kernel
theorem dX8_condition_30 : decode cX8_condition 30 = .ok (.iconst 1, 1) := by decide +kernel
theorem dX8_condition_31 : decode cX8_condition 31 = .ok (.iadd, 1) := by decide +kernel
theorem dX8_condition_32 : decode cX8_condition 32 = .ok (.putfield 19, 3) := by decide +kernel
theorem dX8_condition_35 : decode cX8_condition 35 = .ok (.aload_n 3, 1) := by decide +kernel
theorem dX8_condition_36 : decode cX8_condition 36 = .ok (.new 75, 3) := by decide +kernel
theorem dX8_condition_39 : decode cX8_condition 39 = .ok (.dup, 1) := by decide +kernel
theorem dX8_condition_40 : decode cX8_condition 40 = .ok (.iconst 0, 1) := by decide +kernel
theorem dX8_condition_41 : decode cX8_condition 41 = .ok (.aload_n 0, 1) := by decide +kernel
theorem dX8_condition_42 : decode cX8_condition 42 = .ok (.aconst_null, 1) := by decide +kernel
theorem dX8_condition_43 : decode cX8_condition 43 = .ok (.invokevirtual 77, 3) := by decide +kernel
theorem dX8_condition_46 : decode cX8_condition 46 = .ok (.invokespecial 80, 3) := by decide +kernel
theorem dX8_condition_49 : decode cX8_condition 49 = .ok (.putfield 83, 3) := by decide +kernel
theorem dX8_condition_52 : decode cX8_condition 52 = .ok (.aload_n 3, 1) := by decide +kernel
theorem dX8_condition_53 : decode cX8_condition 53 = .ok (.getfield 83, 3) := by decide +kernel
theorem dX8_condition_56 : decode cX8_condition 56 = .ok (.astore_n 3, 1) := by decide +kernel
theorem dX8_condition_57 : decode cX8_condition 57 = .ok (.goto (-41), 3) := by decide +kernel
theorem dX8_condition_60 : decode cX8_condition 60 = .ok (.aload_n 2, 1) := by decide +kernel
theorem dX8_condition_61 : decode cX8_condition 61 = .ok (.areturn, 1) := by decide +kernel
section
variable {p : Program} {l : Launch} {e : Env} {s : State} {m : MethodId} {args : Array Value} {below : List Frame} {meth : Method} {c : Code} {D : gD} {A : Nat → Prop} {ad : Nat → Nat} {τ : Shp} {σ : Mem}
set_option maxRecDepth 100000 in
set_option maxHeartbeats 4000000 in
theorem w_X8_condition_b_L16 {rec : Mem → Shp → Nat → Option Nat → Option (Rs Nat)} {qf ql : Nat} (hrec : ∀ {σ : Mem} {τ : Shp} {ad : Nat → Nat} {i0 : Nat} {a1 : Option Nat} (_ : sC τ ≤ LCl) (_ : sL τ ≤ LSl) (_ : sS τ i0 = (15, 0)) (_ : ∀ t, a1 = some t → sS τ t ∈ [(18, 0), (19, 0), (20, 0)]) {r : Rs Nat}, rec σ τ i0 a1 = some r → Mg l yX8_unit (ws_ yX8_unit cX8_unit 5 (some (.object "ClogHouse$Condition"))) (rmA qf ql τ) (va_Pc [.ref (ad i0), va_rf (a1.map ad)] (PreG D (Ew D A) A ad (sS τ) σ)) (QR D A ad τ vN r) A) (Z : Cz D (Ew D A) A cX8_condition 4 (some (.object "ClogHouse$Condition")) RX8 p s m args meth c) (hex : c.exceptionTable.toList.map (fun h => (h.startPc, h.endPc, h.handlerPc, h.catchType)) = []) {u0 : Nat} {u2 : Nat} {r : (Rs Nat)} {k60 : Mem → Shp → Option (Rs Nat)}
    (hk60 : ∀ (σ : Mem) (τ1 : Shp)  (ad1 : Nat → Nat) (cl sl : Nat) (H : Heap) (locs : List Loc) (ls : Array Slot), Gx τ ad τ1 ad1 → ∀ (_ : sS τ1 u2 = (16, 0)), St D A ad1 (sS τ1) σ s.heap H locs → Bd (sC τ) (sL τ) (rmA (qf + 3) (ql + 57) τ) τ1 cl sl → lv_has ls 4 [(2, .ref (ad1 u2))] → k60 σ τ1 = some r → W p l e (rmA (qf + 3) (ql + 57) τ) s m args below meth c H locs cl sl (GQ below (QR D A ad τ vN r) args s A) (F0 m 60 ls [])) :
    ∀ (n : Nat) (σ : Mem) (τ1 : Shp) (v3 : Nat) (ad1 : Nat → Nat) (cl sl : Nat) (H : Heap) (locs : List Loc) (ls : Array Slot), Gx τ ad τ1 ad1 → ∀ (hu0 : sS τ1 u0 = (15, 0)) (hu2 : sS τ1 u2 = (16, 0)) (hv3 : sS τ1 v3 = (16, 0)), St D A ad1 (sS τ1) σ s.heap H locs → Bd (sC τ) (sL τ) (rmA (qf + 3) (ql + 57) τ) τ1 cl sl → lv_has ls 4 [(0, .ref (ad1 u0)), (2, .ref (ad1 u2)), (3, .ref (ad1 v3))] → f_X8_condition_b_L16 rec k60 u0 u2 n σ τ1 v3 = some r → W p l e (rmA (qf + 3) (ql + 57) τ) s m args below meth c H locs cl sl (GQ below (QR D A ad τ vN r) args s A) (F0 m 16 ls []) := by
  have hx := Z.1
  have hb := Z.2.1
  have hown := Z.2.2.2.2.2.1
  have hts := Z.2.2.2.2.2.2.1
  intro n
  induction n with
  | zero => intro σ τ1 v3 ad1 cl sl H locs ls G hu0 hu2 hv3 hS B hl h; cases h
  | succ n ih =>
    intro σ τ1 v3 ad1 cl sl H locs ls G hu0 hu2 hv3 hS B hl h
    unfold f_X8_condition_b_L16 at h
    refine lv_aload_n hx hb dX8_condition_16 rfl (lv_at hl 0 rfl) ?_
    refine h_cim hS h (fun z hz => h_rV (rest := []) Z hS hu0 rfl v_X8_34 (w_X8_look hu0 hz) rfl rfl ⟨by show 0 + 1 ≤ qf + 3; omega, by show 8 + (1 + 11) + (0) ≤ ql + 57; omega⟩ rfl hl.1 rfl (Nat.le_of_ble_eq_true rfl) B.cl B.sl dX8_condition_17) (fun σ11 x12 H locs hS h => ?_)
    refine lv_bipush (v := (124 : Int32)) hx hb dX8_condition_20 (by decide) ?_
    refine lv_icmp_ne (tgt := 60) hx hb dX8_condition_22 (by decide) (fun c13 => ?_) (fun c13 => ?_)
    · have h := if_f h c13
      exact hk60 _ _ _ _ _ _ _ _ G hu2 hS B (lv_sub hl [1] rfl) h
    · have h := if_t h c13
      refine lv_aload_n hx hb dX8_condition_25 rfl (lv_at hl 0 rfl) ?_
      refine lv_dup hx hb dX8_condition_26 rfl ?_
      refine h_getI Z hS cls_5 hu0 (by decide) rfl fl_X8_19_5 dX8_condition_27 h (fun x14 h => ?_)
      refine lv_iconst (v := (1 : Int32)) hx hb dX8_condition_30 (by decide) ?_
      refine lv_iadd hx hb dX8_condition_31 ?_
      refine h_putI Z hS cls_5 hu0 (by decide) rfl rfl rfl fl_X8_19_5 dX8_condition_32 h (fun σ15 H locs hS h => ?_)
      refine lv_aload_n hx hb dX8_condition_35 rfl (lv_at hl 2 rfl) ?_
      refine a_newD Z hS B cls_6 dv_6 nc_6 q702 q703 q94 dX8_condition_36 h (fun ad16 σ16 τ16 j17 H ga gb gc hj17 hS B h => ?_)
      have g16 : Gx τ1 ad1 τ16 ad16 := ⟨ga, gb, gc⟩
      have G := G.trans g16
      generalize cl + 1 = cl at B ⊢
      generalize sl + 3 = sl at B ⊢
      have ea18 := g16.ad hu0
      replace hu0 := g16.sh hu0
      have ea19 := g16.ad hu2
      replace hu2 := g16.sh hu2
      have ea20 := g16.ad hv3
      replace hv3 := g16.sh hv3
      replace hl : lv_has ls 4 [(0, .ref (ad16 u0)), (2, .ref (ad16 u2)), (3, .ref (ad16 v3))] := by rw [ea18, ea19, ea20]; exact hl
      refine W_stk (st' := [.ref (ad16 j17), .ref (ad16 v3)]) (by first | (rw [ea20]; done) | (rw [ea20]; rfl)) ?_
      refine lv_dup hx hb dX8_condition_39 rfl ?_
      refine lv_iconst (v := (0 : Int32)) hx hb dX8_condition_40 (by decide) ?_
      refine lv_aload_n hx hb dX8_condition_41 rfl (lv_at hl 0 rfl) ?_
      refine lv_null hx hb dX8_condition_42 ?_
      refine a_call (av := [.ref (ad16 u0), .null]) (rest := [.int (0 : Int32), .ref (ad16 j17), .ref (ad16 j17), .ref (ad16 v3)]) Z hex hS B G (en_V (rest := [.int (0 : Int32), .ref (ad16 j17), .ref (ad16 j17), .ref (ad16 v3)]) Z hS hu0 rfl v_X8_77 rfl rfl dX8_condition_43) q707 ⟨by show qf + 2 + 1 ≤ qf + 3; omega, by show 8 + (4 + 11) + (ql + 34) ≤ ql + 57; omega⟩ hl.1 (Nat.le_of_ble_eq_true rfl) dX8_condition_43 h (fun z hz => w_X8_part_b hrec B.2.2.2.2.1 B.2.2.2.2.2 hu0 (fun t ht => by cases ht) hz) (fun σ21 τ21 j22 ad21 H locs cl sl g21 hS B h => ?_)
      have G := G.trans g21
      obtain ⟨hj22, h⟩ := gd_el h
      replace hj22 := isSh_m hj22
      have ea23 := g21.ad hu0
      replace hu0 := g21.sh hu0
      have ea24 := g21.ad hu2
      replace hu2 := g21.sh hu2
      have ea25 := g21.ad hv3
      replace hv3 := g21.sh hv3
      have ea26 := g21.ad hj17
      replace hj17 := g21.sh hj17
      replace hl : lv_has ls 4 [(0, .ref (ad21 u0)), (2, .ref (ad21 u2)), (3, .ref (ad21 v3))] := by rw [ea23, ea24, ea25]; exact hl
      refine W_stk (st' := [.ref (ad21 j22), .int (0 : Int32), .ref (ad21 j17), .ref (ad21 j17), .ref (ad21 v3)]) (by first | (rw [ea26, ea25]; done) | (rw [ea26, ea25]; rfl)) ?_
      refine h_cm hS h (fun z hz => h_rI (rest := [.ref (ad21 j17), .ref (ad21 v3)]) Z hS vc_X8_80 (w_X10_init hj17 hj22 hz) rfl rfl ⟨by show 1 + 1 ≤ qf + 3; omega, by show 8 + (3 + 11) + (12) ≤ ql + 57; omega⟩ rfl hl.1 rfl (Nat.le_of_ble_eq_true rfl) B.cl B.sl dX8_condition_46) (fun σ27 H locs hS h => ?_)
      refine h_putR (v := (some j17)) Z hS cls_6 hv3 (by decide) rfl rfl rfl rfl (fun t ht => by cases ht; rw [hj17]; decide) fl_X8_83_6 dX8_condition_49 h (fun σ28 H locs hS h => ?_)
      refine lv_aload_n hx hb dX8_condition_52 rfl (lv_at hl 2 rfl) ?_
      refine h_getN (sh := (16, 0)) Z hS cls_6 hv3 (by decide) rfl rfl fl_X8_83_6 dX8_condition_53 h (fun j29 hj29 h => ?_)
      refine lv_astore_n (lv' := [(3, .ref (ad21 j29)), (0, .ref (ad21 u0)), (2, .ref (ad21 u2))]) hx hb dX8_condition_56 rfl hl (by decide) rfl (fun ls hl => ?_)
      refine lv_goto (tgt := 16) hx hb dX8_condition_57 (by decide) ?_
      exact ih _ _ _ _ _ _ _ _ _ G hu0 hu2 hj29 hS B (lv_sub hl [1, 2, 0] rfl) h
set_option maxRecDepth 100000 in
set_option maxHeartbeats 4000000 in
theorem w_X8_condition_b {rec : Mem → Shp → Nat → Option Nat → Option (Rs Nat)} {qf ql : Nat} (hrec : ∀ {σ : Mem} {τ : Shp} {ad : Nat → Nat} {i0 : Nat} {a1 : Option Nat} (_ : sC τ ≤ LCl) (_ : sL τ ≤ LSl) (_ : sS τ i0 = (15, 0)) (_ : ∀ t, a1 = some t → sS τ t ∈ [(18, 0), (19, 0), (20, 0)]) {r : Rs Nat}, rec σ τ i0 a1 = some r → Mg l yX8_unit (ws_ yX8_unit cX8_unit 5 (some (.object "ClogHouse$Condition"))) (rmA qf ql τ) (va_Pc [.ref (ad i0), va_rf (a1.map ad)] (PreG D (Ew D A) A ad (sS τ) σ)) (QR D A ad τ vN r) A) {i0 : Nat} {a1 : Option Nat} (hc0 : sC τ ≤ LCl) (hs0 : sL τ ≤ LSl) (hi0 : sS τ i0 = (15, 0)) (ha1 : ∀ t, a1 = some t → sS τ t ∈ [(18, 0), (19, 0), (20, 0)]) {r : (Rs Nat)} (h : f_X8_condition_b rec σ τ i0 a1 = some r) : Mg l yX8_condition (ws_ yX8_condition cX8_condition 4 (some (.object "ClogHouse$Condition"))) (rmA (qf + 3) (ql + 57) τ) (va_Pc [.ref (ad i0), va_rf (a1.map ad)] (PreG D (Ew D A) A ad (sS τ) σ)) (QR D A ad τ vN r) A := by
  refine a_met hc0 hs0 (by decide) (by cases a1 <;> exact Nat.le_of_ble_eq_true rfl) (fun p e s m args below meth c ls Z hnm hex hS B G hl => ?_)
  replace hl : lv_has ls 4 [(0, .ref (ad i0)), (1, va_rf (a1.map ad))] := by cases a1 <;> exact hl
  have hx := Z.1
  have hb := Z.2.1
  have hown := Z.2.2.2.2.2.1
  have hts := Z.2.2.2.2.2.2.1
  refine (?_ : ∀ cl sl, Bd (sC τ) (sL τ) (rmA (qf + 3) (ql + 57) τ) τ cl sl → W p l e (rmA (qf + 3) (ql + 57) τ) s m args below meth c s.heap [] cl sl (GQ below (QR D A ad τ vN r) args s A) (F0 m 0 ls [])) 0 0 B
  clear B
  intro cl sl B
  unfold f_X8_condition_b at h
  refine a_newD Z hS B cls_6 dv_6 nc_6 q702 q703 q94 dX8_condition_0 h (fun ad1 σ1 τ1 j2 H ga gb gc hj2 hS B h => ?_)
  have g1 : Gx τ ad τ1 ad1 := ⟨ga, gb, gc⟩
  have G := G.trans g1
  generalize cl + 1 = cl at B ⊢
  generalize sl + 3 = sl at B ⊢
  have ea3 := g1.ad hi0
  replace hi0 := g1.sh hi0
  have ea4 := g1.adq ha1 (by decide)
  replace ha1 := fun t ht => g1.shm (ha1 t ht) (by decide)
  replace hl : lv_has ls 4 [(0, .ref (ad1 i0)), (1, va_rf (a1.map ad1))] := by rw [ea3, ea4]; exact hl
  refine lv_dup hx hb dX8_condition_3 rfl ?_
  refine lv_iconst (v := (0 : Int32)) hx hb dX8_condition_4 (by decide) ?_
  refine lv_aload_n hx hb dX8_condition_5 rfl (lv_at hl 0 rfl) ?_
  refine h_aldq_n (o := a1) Z dX8_condition_6 rfl (lv_at hl 1 rfl) ?_
  refine a_call (av := [.ref (ad1 i0), va_rf (a1.map ad1)]) (rest := [.int (0 : Int32), .ref (ad1 j2), .ref (ad1 j2)]) Z hex hS B G (en_V (rest := [.int (0 : Int32), .ref (ad1 j2), .ref (ad1 j2)]) Z hS hi0 rfl v_X8_77 rfl rfl dX8_condition_7) q707 ⟨by show qf + 2 + 1 ≤ qf + 3; omega, by show 8 + (4 + 11) + (ql + 34) ≤ ql + 57; omega⟩ hl.1 (Nat.le_of_ble_eq_true rfl) dX8_condition_7 h (fun z hz => w_X8_part_b hrec B.2.2.2.2.1 B.2.2.2.2.2 hi0 ha1 hz) (fun σ5 τ5 j6 ad5 H locs cl sl g5 hS B h => ?_)
  have G := G.trans g5
  obtain ⟨hj6, h⟩ := gd_el h
  replace hj6 := isSh_m hj6
  have ea7 := g5.ad hi0
  replace hi0 := g5.sh hi0
  have ea8 := g5.adq ha1 (by decide)
  replace ha1 := fun t ht => g5.shm (ha1 t ht) (by decide)
  have ea9 := g5.ad hj2
  replace hj2 := g5.sh hj2
  replace hl : lv_has ls 4 [(0, .ref (ad5 i0)), (1, va_rf (a1.map ad5))] := by rw [ea7, ea8]; exact hl
  refine W_stk (st' := [.ref (ad5 j6), .int (0 : Int32), .ref (ad5 j2), .ref (ad5 j2)]) (by first | (rw [ea9]; done) | (rw [ea9]; rfl)) ?_
  refine h_cm hS h (fun z hz => h_rI (rest := [.ref (ad5 j2)]) Z hS vc_X8_80 (w_X10_init hj2 hj6 hz) rfl rfl ⟨by show 1 + 1 ≤ qf + 3; omega, by show 8 + (3 + 11) + (12) ≤ ql + 57; omega⟩ rfl hl.1 rfl (Nat.le_of_ble_eq_true rfl) B.cl B.sl dX8_condition_10) (fun σ10 H locs hS h => ?_)
  refine lv_astore_n (lv' := [(2, .ref (ad5 j2)), (0, .ref (ad5 i0)), (1, va_rf (a1.map ad5))]) hx hb dX8_condition_13 rfl hl (by decide) (by cases a1 <;> rfl) (fun ls hl => ?_)
  refine lv_aload_n hx hb dX8_condition_14 rfl (lv_at hl 0 rfl) ?_
  refine lv_astore_n (lv' := [(3, .ref (ad5 j2)), (2, .ref (ad5 j2)), (0, .ref (ad5 i0)), (1, va_rf (a1.map ad5))]) hx hb dX8_condition_15 rfl hl (by decide) (by cases a1 <;> rfl) (fun ls hl => ?_)
  refine w_X8_condition_b_L16 hrec Z hex (fun σ30 τ30 ad30 cl sl H locs ls G hj2 hS B hl h => ?_) FU _ _ _ _ _ _ _ _ _ G hi0 hj2 hj2 hS B (lv_sub hl [2, 1, 0] rfl) h
  refine lv_aload_n hx hb dX8_condition_60 rfl (lv_at hl 0 rfl) ?_
  exact a_aret Z hS B G dX8_condition_61 h
end
theorem dX8_unit_0 : decode cX8_unit 0 = .ok (.aload_n 0, 1) := by decide +kernel
theorem dX8_unit_1 : decode cX8_unit 1 = .ok (.invokevirtual 34, 3) := by decide +kernel
theorem dX8_unit_4 : decode cX8_unit 4 = .ok (.istore_n 2, 1) := by decide +kernel
theorem dX8_unit_5 : decode cX8_unit 5 = .ok (.aload_n 1, 1) := by decide +kernel
theorem dX8_unit_6 : decode cX8_unit 6 = .ok (.ifnonnull 38, 3) := by decide +kernel
theorem dX8_unit_9 : decode cX8_unit 9 = .ok (.iload_n 2, 1) := by decide +kernel
theorem dX8_unit_10 : decode cX8_unit 10 = .ok (.bipush 33, 2) := by decide +kernel
theorem dX8_unit_12 : decode cX8_unit 12 = .ok (.if_icmp .ne 32, 3) := by decide +kernel
theorem dX8_unit_15 : decode cX8_unit 15 = .ok (.aload_n 0, 1) := by decide +kernel
theorem dX8_unit_16 : decode cX8_unit 16 = .ok (.invokevirtual 89, 3) := by decide +kernel
theorem dX8_unit_19 : decode cX8_unit 19 = .ok (.new 92, 3) := by decide +kernel
theorem dX8_unit_22 : decode cX8_unit 22 = .ok (.dup, 1) := by decide +kernel
theorem dX8_unit_23 : decode cX8_unit 23 = .ok (.aload_n 0, 1) := by decide +kernel
theorem dX8_unit_24 : decode cX8_unit 24 = .ok (.aconst_null, 1) := by decide +kernel
theorem dX8_unit_25 : decode cX8_unit 25 = .ok (.invokevirtual 86, 3) := by decide +kernel
theorem dX8_unit_28 : decode cX8_unit 28 = .ok (.invokespecial 94, 3) := by decide +kernel
theorem dX8_unit_31 : decode cX8_unit 31 = .ok (.astore_n 3, 1) := by decide +kernel
theorem dX8_unit_32 : decode cX8_unit 32 = .ok (.aload_n 0, 1) := by decide +kernel
theorem dX8_unit_33 : decode cX8_unit 33 = .ok (.dup, 1) := by decide +kernel
theorem dX8_unit_34 : decode cX8_unit 34 = .ok (.getfield 27, 3) := by decide +kernel
theorem dX8_unit_37 : decode cX8_unit 37 = .ok (.iconst 1, 1) := by decide +kernel
theorem dX8_unit_38 : decode cX8_unit 38 = .ok (.isub, 1) := by decide +kernel
theorem dX8_unit_39 : decode cX8_unit 39 = .ok (.putfield 27, 3) := by decide +kernel
theorem dX8_unit_42 : decode cX8_unit 42 = .ok (.aload_n 3, 1) := by decide +kernel
theorem dX8_unit_43 : decode cX8_unit 43 = .ok (.areturn, 1) := by decide +kernel
theorem dX8_unit_44 : decode cX8_unit 44 = .ok (.aload_n 1, 1) := by decide +kernel
theorem dX8_unit_45 : decode cX8_unit 45 = .ok (.ifnonnull 27, 3) := by decide +kernel
theorem dX8_unit_48 : decode cX8_unit 48 = .ok (.iload_n 2, 1) := by decide +kernel
theorem dX8_unit_49 : decode cX8_unit 49 = .ok (.bipush 40, 2) := by decide +kernel
theorem dX8_unit_51 : decode cX8_unit 51 = .ok (.if_icmp .ne 21, 3) := by decide +kernel
theorem dX8_unit_54 : decode cX8_unit 54 = .ok (.aload_n 0, 1) := by decide +kernel
theorem dX8_unit_55 : decode cX8_unit 55 = .ok (.invokevirtual 89, 3) := by decide +kernel
theorem dX8_unit_58 : decode cX8_unit 58 = .ok (.aload_n 0, 1) := by decide +kernel
theorem dX8_unit_59 : decode cX8_unit 59 = .ok (.aconst_null, 1) := by decide +kernel
theorem dX8_unit_60 : decode cX8_unit 60 = .ok (.invokevirtual 56, 3) := by decide +kernel
theorem dX8_unit_63 : decode cX8_unit 63 = .ok (.astore_n 3, 1) := by decide +kernel
theorem dX8_unit_64 : decode cX8_unit 64 = .ok (.aload_n 0, 1) := by decide +kernel
theorem dX8_unit_65 : decode cX8_unit 65 = .ok (.bipush 41, 2) := by decide +kernel
theorem dX8_unit_67 : decode cX8_unit 67 = .ok (.invokevirtual 97, 3) := by decide +kernel
theorem dX8_unit_70 : decode cX8_unit 70 = .ok (.aload_n 3, 1) := by decide +kernel
theorem dX8_unit_71 : decode cX8_unit 71 = .ok (.areturn, 1) := by decide +kernel
theorem dX8_unit_72 : decode cX8_unit 72 = .ok (.aload_n 1, 1) := by decide +kernel
theorem dX8_unit_73 : decode cX8_unit 73 = .ok (.ifnonnull 10, 3) := by decide +kernel
theorem dX8_unit_76 : decode cX8_unit 76 = .ok (.aload_n 0, 1) := by decide +kernel
theorem dX8_unit_77 : decode cX8_unit 77 = .ok (.invokevirtual 64, 3) := by decide +kernel
theorem dX8_unit_80 : decode cX8_unit 80 = .ok (.goto 4, 3) := by decide +kernel
theorem dX8_unit_83 : decode cX8_unit 83 = .ok (.aload_n 1, 1) := by decide +kernel
theorem dX8_unit_84 : decode cX8_unit 84 = .ok (.astore_n 3, 1) := by decide +kernel
theorem dX8_unit_85 : decode cX8_unit 85 = .ok (.aload_n 0, 1) := by decide +kernel
theorem dX8_unit_86 : decode cX8_unit 86 = .ok (.aload_n 0, 1) := by decide +kernel
theorem dX8_unit_87 : decode cX8_unit 87 = .ok (.invokevirtual 34, 3) := by decide +kernel
theorem dX8_unit_90 : decode cX8_unit 90 = .ok (.invokestatic 68, 3) := by decide +kernel
theorem dX8_unit_93 : decode cX8_unit 93 = .ok (.invokevirtual 30, 3) := by decide +kernel
theorem dX8_unit_96 : decode cX8_unit 96 = .ok (.istore 4, 2) := by decide +kernel
theorem dX8_unit_98 : decode cX8_unit 98 = .ok (.new 100, 3) := by decide +kernel
theorem dX8_unit_101 : decode cX8_unit 101 = .ok (.dup, 1) := by decide +kernel
theorem dX8_unit_102 : decode cX8_unit 102 = .ok (.aload_n 3, 1) := by decide +kernel
theorem dX8_unit_103 : decode cX8_unit 103 = .ok (.aload_n 0, 1) := by decide +kernel
theorem dX8_unit_104 : decode cX8_unit 104 = .ok (.invokevirtual 64, 3) := by decide +kernel
theorem dX8_unit_107 : decode cX8_unit 107 = .ok (.iload 4, 2) := by decide +kernel
theorem dX8_unit_109 : decode cX8_unit 109 = .ok (.invokespecial 102, 3) := by decide +kernel
theorem dX8_unit_112 : decode cX8_unit 112 = .ok (.areturn, 1) := by decide +kernel
section
variable {p : Program} {l : Launch} {e : Env} {s : State} {m : MethodId} {args : Array Value} {below : List Frame} {meth : Method} {c : Code} {D : gD} {A : Nat → Prop} {ad : Nat → Nat} {τ : Shp} {σ : Mem}
set_option maxRecDepth 100000 in
set_option maxHeartbeats 4000000 in
theorem w_X8_unit_b {rec : Mem → Shp → Nat → Option Nat → Option (Rs Nat)} {qf ql : Nat} (hrec : ∀ {σ : Mem} {τ : Shp} {ad : Nat → Nat} {i0 : Nat} {a1 : Option Nat} (_ : sC τ ≤ LCl) (_ : sL τ ≤ LSl) (_ : sS τ i0 = (15, 0)) (_ : ∀ t, a1 = some t → sS τ t ∈ [(18, 0), (19, 0), (20, 0)]) {r : Rs Nat}, rec σ τ i0 a1 = some r → Mg l yX8_unit (ws_ yX8_unit cX8_unit 5 (some (.object "ClogHouse$Condition"))) (rmA qf ql τ) (va_Pc [.ref (ad i0), va_rf (a1.map ad)] (PreG D (Ew D A) A ad (sS τ) σ)) (QR D A ad τ vN r) A) {i0 : Nat} {a1 : Option Nat} (hc0 : sC τ ≤ LCl) (hs0 : sL τ ≤ LSl) (hi0 : sS τ i0 = (15, 0)) (ha1 : ∀ t, a1 = some t → sS τ t ∈ [(18, 0), (19, 0), (20, 0)]) {r : (Rs Nat)} (h : f_X8_unit_b rec σ τ i0 a1 = some r) : Mg l yX8_unit (ws_ yX8_unit cX8_unit 5 (some (.object "ClogHouse$Condition"))) (rmA (qf + 97) (ql + 2318) τ) (va_Pc [.ref (ad i0), va_rf (a1.map ad)] (PreG D (Ew D A) A ad (sS τ) σ)) (QR D A ad τ vN r) A := by
  refine a_met hc0 hs0 (by decide) (by cases a1 <;> exact Nat.le_of_ble_eq_true rfl) (fun p e s m args below meth c ls Z hnm hex hS B G hl => ?_)
  replace hl : lv_has ls 5 [(0, .ref (ad i0)), (1, va_rf (a1.map ad))] := by cases a1 <;> exact hl
  have hx := Z.1
  have hb := Z.2.1
  have hown := Z.2.2.2.2.2.1
  have hts := Z.2.2.2.2.2.2.1
  refine (?_ : ∀ cl sl, Bd (sC τ) (sL τ) (rmA (qf + 97) (ql + 2318) τ) τ cl sl → W p l e (rmA (qf + 97) (ql + 2318) τ) s m args below meth c s.heap [] cl sl (GQ below (QR D A ad τ vN r) args s A) (F0 m 0 ls [])) 0 0 B
  clear B
  intro cl sl B
  unfold f_X8_unit_b at h
  refine lv_aload_n hx hb dX8_unit_0 rfl (lv_at hl 0 rfl) ?_
  refine h_cim hS h (fun z hz => h_rV (rest := []) Z hS hi0 rfl v_X8_34 (w_X8_look hi0 hz) rfl rfl ⟨by show 0 + 1 ≤ qf + 97; omega, by show 8 + (1 + 11) + (0) ≤ ql + 2318; omega⟩ rfl hl.1 rfl (Nat.le_of_ble_eq_true rfl) B.cl B.sl dX8_unit_1) (fun σ1 x2 H locs hS h => ?_)
  refine lv_istore_n (lv' := [(2, .int x2), (0, .ref (ad i0)), (1, va_rf (a1.map ad))]) hx hb dX8_unit_4 rfl hl (by decide) (by cases a1 <;> rfl) (fun ls hl => ?_)
  refine h_aldq_n (o := a1) Z dX8_unit_5 rfl (lv_at hl 2 rfl) ?_
  refine h_ifnonnull (o := a1) (tgt := 44) Z dX8_unit_6 (by decide) (fun ea1 => ?_) (fun j3 ea1 => ?_)
  · subst ea1
    have hl : lv_has ls 5 [(2, .int x2), (0, .ref (ad i0)), (1, .null)] := hl
    refine lv_iload_n hx hb dX8_unit_9 rfl (lv_at hl 0 rfl) ?_
    refine lv_bipush (v := (33 : Int32)) hx hb dX8_unit_10 (by decide) ?_
    refine lv_icmp_ne (tgt := 44) hx hb dX8_unit_12 (by decide) (fun c4 => ?_) (fun c4 => ?_)
    · have h := if_f h c4
      refine lv_aload_nN hx hb dX8_unit_44 rfl (lv_at hl 2 rfl) ?_
      refine lv_ifnonnullN hx hb dX8_unit_45 ?_
      refine lv_iload_n hx hb dX8_unit_48 rfl (lv_at hl 0 rfl) ?_
      refine lv_bipush (v := (40 : Int32)) hx hb dX8_unit_49 (by decide) ?_
      refine lv_icmp_ne (tgt := 72) hx hb dX8_unit_51 (by decide) (fun c17 => ?_) (fun c17 => ?_)
      · have h := if_f h c17
        refine lv_aload_nN hx hb dX8_unit_72 rfl (lv_at hl 2 rfl) ?_
        refine lv_ifnonnullN hx hb dX8_unit_73 ?_
        refine lv_aload_n hx hb dX8_unit_76 rfl (lv_at hl 1 rfl) ?_
        refine a_call (av := [.ref (ad i0)]) (rest := []) Z hex hS B G (en_V (rest := []) Z hS hi0 rfl v_X8_64 rfl rfl dX8_unit_77) q733 ⟨by show 96 + 1 ≤ qf + 97; omega, by show 8 + (3 + 11) + (2296) ≤ ql + 2318; omega⟩ hl.1 (Nat.le_of_ble_eq_true rfl) dX8_unit_77 h (fun z hz => w_X8_sum 8 B.2.2.2.2.1 B.2.2.2.2.2 hi0 hz) (fun σ26 τ26 j27 ad26 H locs cl sl g26 hS B h => ?_)
        have G := G.trans g26
        obtain ⟨hj27, h⟩ := gd_el h
        replace hj27 := isSh_m hj27
        have ea28 := g26.ad hi0
        replace hi0 := g26.sh hi0
        replace hl : lv_has ls 5 [(2, .int x2), (0, .ref (ad26 i0)), (1, .null)] := by rw [ea28]; exact hl
        refine lv_goto (tgt := 84) hx hb dX8_unit_80 (by decide) ?_
        refine lv_astore_n (lv' := [(3, .ref (ad26 j27)), (2, .int x2), (0, .ref (ad26 i0)), (1, .null)]) hx hb dX8_unit_84 rfl hl (by decide) rfl (fun ls hl => ?_)
        refine lv_aload_n hx hb dX8_unit_85 rfl (lv_at hl 2 rfl) ?_
        refine lv_aload_n hx hb dX8_unit_86 rfl (lv_at hl 2 rfl) ?_
        refine h_cim hS h (fun z hz => h_rV (rest := [.ref (ad26 i0)]) Z hS hi0 rfl v_X8_34 (w_X8_look hi0 hz) rfl rfl ⟨by show 0 + 1 ≤ qf + 97; omega, by show 8 + (1 + 11) + (0) ≤ ql + 2318; omega⟩ rfl hl.1 rfl (Nat.le_of_ble_eq_true rfl) B.cl B.sl dX8_unit_87) (fun σ29 x30 H locs hS h => ?_)
        refine h_ci hS h (fun z hz => h_rS (rest := [.ref (ad26 i0)]) Z hS v_X8_68 (w_X8_isSign hz) rfl rfl ⟨by show 0 + 1 ≤ qf + 97; omega, by show 8 + (1 + 11) + (0) ≤ ql + 2318; omega⟩ rfl hl.1 rfl (Nat.le_of_ble_eq_true rfl) B.cl B.sl dX8_unit_90) (fun x31 H locs hS h => ?_)
        refine a_call (av := [.ref (ad26 i0), .int x31]) (rest := []) Z hex hS B G (en_V (rest := []) Z hS hi0 rfl v_X8_30 rfl rfl dX8_unit_93) q628 ⟨by show 8 + 1 ≤ qf + 97; omega, by show 8 + (2 + 11) + (200) ≤ ql + 2318; omega⟩ hl.1 (Nat.le_of_ble_eq_true rfl) dX8_unit_93 h (fun z hz => w_X8_take B.2.2.2.2.1 B.2.2.2.2.2 hi0 hz) (fun σ32 τ32 x33 ad32 H locs cl sl g32 hS B h => ?_)
        have G := G.trans g32
        have ea34 := g32.ad hi0
        replace hi0 := g32.sh hi0
        have ea35 := g32.adm hj27 (by decide)
        replace hj27 := g32.shm hj27 (by decide)
        replace hl : lv_has ls 5 [(3, .ref (ad32 j27)), (2, .int x2), (0, .ref (ad32 i0)), (1, .null)] := by rw [ea35, ea34]; exact hl
        refine lv_istore (lv' := [(4, .int x33), (3, .ref (ad32 j27)), (2, .int x2), (0, .ref (ad32 i0)), (1, .null)]) hx hb dX8_unit_96 hl (by decide) rfl (fun ls hl => ?_)
        refine a_newD Z hS B cls_12 dv_12 nc_12 q814 q815 q101 dX8_unit_98 h (fun ad36 σ36 τ36 j37 H ga gb gc hj37 hS B h => ?_)
        have g36 : Gx τ32 ad32 τ36 ad36 := ⟨ga, gb, gc⟩
        have G := G.trans g36
        generalize cl + 1 = cl at B ⊢
        generalize sl + 3 = sl at B ⊢
        have ea38 := g36.ad hi0
        replace hi0 := g36.sh hi0
        have ea39 := g36.adm hj27 (by decide)
        replace hj27 := g36.shm hj27 (by decide)
        replace hl : lv_has ls 5 [(4, .int x33), (3, .ref (ad36 j27)), (2, .int x2), (0, .ref (ad36 i0)), (1, .null)] := by rw [ea39, ea38]; exact hl
        refine lv_dup hx hb dX8_unit_101 rfl ?_
        refine lv_aload_n hx hb dX8_unit_102 rfl (lv_at hl 1 rfl) ?_
        refine lv_aload_n hx hb dX8_unit_103 rfl (lv_at hl 3 rfl) ?_
        refine a_call (av := [.ref (ad36 i0)]) (rest := [.ref (ad36 j27), .ref (ad36 j37), .ref (ad36 j37)]) Z hex hS B G (en_V (rest := [.ref (ad36 j27), .ref (ad36 j37), .ref (ad36 j37)]) Z hS hi0 rfl v_X8_64 rfl rfl dX8_unit_104) q733 ⟨by show 96 + 1 ≤ qf + 97; omega, by show 8 + (3 + 11) + (2296) ≤ ql + 2318; omega⟩ hl.1 (Nat.le_of_ble_eq_true rfl) dX8_unit_104 h (fun z hz => w_X8_sum 8 B.2.2.2.2.1 B.2.2.2.2.2 hi0 hz) (fun σ40 τ40 j41 ad40 H locs cl sl g40 hS B h => ?_)
        have G := G.trans g40
        obtain ⟨hj41, h⟩ := gd_el h
        replace hj41 := isSh_m hj41
        have ea42 := g40.ad hi0
        replace hi0 := g40.sh hi0
        have ea43 := g40.adm hj27 (by decide)
        replace hj27 := g40.shm hj27 (by decide)
        have ea44 := g40.ad hj37
        replace hj37 := g40.sh hj37
        replace hl : lv_has ls 5 [(4, .int x33), (3, .ref (ad40 j27)), (2, .int x2), (0, .ref (ad40 i0)), (1, .null)] := by rw [ea43, ea42]; exact hl
        refine W_stk (st' := [.ref (ad40 j41), .ref (ad40 j27), .ref (ad40 j37), .ref (ad40 j37)]) (by first | (rw [ea43, ea44]; done) | (rw [ea43, ea44]; rfl)) ?_
        refine lv_iload hx hb dX8_unit_107 (lv_at hl 0 rfl) ?_
        refine h_cm hS h (fun z hz => h_rI (rest := [.ref (ad40 j37)]) Z hS vc_X8_102 (w_X17_init hj37 hj27 hj41 hz) rfl rfl ⟨by show 1 + 1 ≤ qf + 97; omega, by show 8 + (4 + 11) + (12) ≤ ql + 2318; omega⟩ rfl hl.1 rfl (Nat.le_of_ble_eq_true rfl) B.cl B.sl dX8_unit_109) (fun σ45 H locs hS h => ?_)
        exact a_aret Z hS B G dX8_unit_112 h
      · have h := if_t h c17
        refine lv_aload_n hx hb dX8_unit_54 rfl (lv_at hl 1 rfl) ?_
        refine a_call (av := [.ref (ad i0)]) (rest := []) Z hex hS B G (en_V (rest := []) Z hS hi0 rfl v_X8_89 rfl rfl dX8_unit_55) q715 ⟨by show 9 + 1 ≤ qf + 97; omega, by show 8 + (2 + 11) + (221) ≤ ql + 2318; omega⟩ hl.1 (Nat.le_of_ble_eq_true rfl) dX8_unit_55 h (fun z hz => w_X8_goIn B.2.2.2.2.1 B.2.2.2.2.2 hi0 hz) (fun σ18 τ18 _ ad18 H locs cl sl g18 hS B h => ?_)
        have G := G.trans g18
        have ea19 := g18.ad hi0
        replace hi0 := g18.sh hi0
        replace hl : lv_has ls 5 [(2, .int x2), (0, .ref (ad18 i0)), (1, .null)] := by rw [ea19]; exact hl
        refine lv_aload_n hx hb dX8_unit_58 rfl (lv_at hl 1 rfl) ?_
        refine lv_null hx hb dX8_unit_59 ?_
        refine a_call (av := [.ref (ad18 i0), .null]) (rest := []) Z hex hS B G (en_V (rest := []) Z hS hi0 rfl v_X8_56 rfl rfl dX8_unit_60) q701 ⟨by show qf + 3 + 1 ≤ qf + 97; omega, by show 8 + (4 + 11) + (ql + 57) ≤ ql + 2318; omega⟩ hl.1 (Nat.le_of_ble_eq_true rfl) dX8_unit_60 h (fun z hz => w_X8_condition_b hrec B.2.2.2.2.1 B.2.2.2.2.2 hi0 (fun t ht => by cases ht) hz) (fun σ20 τ20 j21 ad20 H locs cl sl g20 hS B h => ?_)
        have G := G.trans g20
        obtain ⟨hj21, h⟩ := gd_el h
        replace hj21 := isSh_m hj21
        have ea22 := g20.ad hi0
        replace hi0 := g20.sh hi0
        replace hl : lv_has ls 5 [(2, .int x2), (0, .ref (ad20 i0)), (1, .null)] := by rw [ea22]; exact hl
        refine lv_astore_n (lv' := [(3, .ref (ad20 j21)), (2, .int x2), (0, .ref (ad20 i0)), (1, .null)]) hx hb dX8_unit_63 rfl hl (by decide) rfl (fun ls hl => ?_)
        refine lv_aload_n hx hb dX8_unit_64 rfl (lv_at hl 2 rfl) ?_
        refine lv_bipush (v := (41 : Int32)) hx hb dX8_unit_65 (by decide) ?_
        refine a_call (av := [.ref (ad20 i0), .int (41 : Int32)]) (rest := []) Z hex hS B G (en_V (rest := []) Z hS hi0 rfl v_X8_97 rfl rfl dX8_unit_67) q729 ⟨by show 9 + 1 ≤ qf + 97; omega, by show 8 + (3 + 11) + (221) ≤ ql + 2318; omega⟩ hl.1 (Nat.le_of_ble_eq_true rfl) dX8_unit_67 h (fun z hz => w_X8_goOut B.2.2.2.2.1 B.2.2.2.2.2 hi0 hz) (fun σ23 τ23 _ ad23 H locs cl sl g23 hS B h => ?_)
        have G := G.trans g23
        have ea24 := g23.ad hi0
        replace hi0 := g23.sh hi0
        have ea25 := g23.adm hj21 (by decide)
        replace hj21 := g23.shm hj21 (by decide)
        replace hl : lv_has ls 5 [(3, .ref (ad23 j21)), (2, .int x2), (0, .ref (ad23 i0)), (1, .null)] := by rw [ea25, ea24]; exact hl
        refine lv_aload_n hx hb dX8_unit_70 rfl (lv_at hl 0 rfl) ?_
        exact a_aret Z hS B G dX8_unit_71 h
    · have h := if_t h c4
      refine lv_aload_n hx hb dX8_unit_15 rfl (lv_at hl 1 rfl) ?_
      refine a_call (av := [.ref (ad i0)]) (rest := []) Z hex hS B G (en_V (rest := []) Z hS hi0 rfl v_X8_89 rfl rfl dX8_unit_16) q715 ⟨by show 9 + 1 ≤ qf + 97; omega, by show 8 + (2 + 11) + (221) ≤ ql + 2318; omega⟩ hl.1 (Nat.le_of_ble_eq_true rfl) dX8_unit_16 h (fun z hz => w_X8_goIn B.2.2.2.2.1 B.2.2.2.2.2 hi0 hz) (fun σ5 τ5 _ ad5 H locs cl sl g5 hS B h => ?_)
      have G := G.trans g5
      have ea6 := g5.ad hi0
      replace hi0 := g5.sh hi0
      replace hl : lv_has ls 5 [(2, .int x2), (0, .ref (ad5 i0)), (1, .null)] := by rw [ea6]; exact hl
      refine a_newD Z hS B cls_7 dv_7 nc_7 q716 q717 q95 dX8_unit_19 h (fun ad7 σ7 τ7 j8 H ga gb gc hj8 hS B h => ?_)
      have g7 : Gx τ5 ad5 τ7 ad7 := ⟨ga, gb, gc⟩
      have G := G.trans g7
      generalize cl + 1 = cl at B ⊢
      generalize sl + 1 = sl at B ⊢
      have ea9 := g7.ad hi0
      replace hi0 := g7.sh hi0
      replace hl : lv_has ls 5 [(2, .int x2), (0, .ref (ad7 i0)), (1, .null)] := by rw [ea9]; exact hl
      refine lv_dup hx hb dX8_unit_22 rfl ?_
      refine lv_aload_n hx hb dX8_unit_23 rfl (lv_at hl 1 rfl) ?_
      refine lv_null hx hb dX8_unit_24 ?_
      refine a_call (av := [.ref (ad7 i0), .null]) (rest := [.ref (ad7 j8), .ref (ad7 j8)]) Z hex hS B G (en_V (rest := [.ref (ad7 j8), .ref (ad7 j8)]) Z hS hi0 rfl v_X8_86 rfl rfl dX8_unit_25) q711 ⟨by show qf + 0 + 1 ≤ qf + 97; omega, by show 8 + (5 + 11) + (ql + 0) ≤ ql + 2318; omega⟩ hl.1 (Nat.le_of_ble_eq_true rfl) dX8_unit_25 h (fun z hz => hrec B.2.2.2.2.1 B.2.2.2.2.2 hi0 (fun t ht => by cases ht) hz) (fun σ10 τ10 j11 ad10 H locs cl sl g10 hS B h => ?_)
      have G := G.trans g10
      obtain ⟨hj11, h⟩ := gd_el h
      replace hj11 := isSh_m hj11
      have ea12 := g10.ad hi0
      replace hi0 := g10.sh hi0
      have ea13 := g10.ad hj8
      replace hj8 := g10.sh hj8
      replace hl : lv_has ls 5 [(2, .int x2), (0, .ref (ad10 i0)), (1, .null)] := by rw [ea12]; exact hl
      refine W_stk (st' := [.ref (ad10 j11), .ref (ad10 j8), .ref (ad10 j8)]) (by first | (rw [ea13]; done) | (rw [ea13]; rfl)) ?_
      refine h_cm hS h (fun z hz => h_rI (rest := [.ref (ad10 j8)]) Z hS vc_X8_94 (w_X11_init hj8 hj11 hz) rfl rfl ⟨by show 1 + 1 ≤ qf + 97; omega, by show 8 + (2 + 11) + (12) ≤ ql + 2318; omega⟩ rfl hl.1 rfl (Nat.le_of_ble_eq_true rfl) B.cl B.sl dX8_unit_28) (fun σ14 H locs hS h => ?_)
      refine lv_astore_n (lv' := [(3, .ref (ad10 j8)), (2, .int x2), (0, .ref (ad10 i0)), (1, .null)]) hx hb dX8_unit_31 rfl hl (by decide) rfl (fun ls hl => ?_)
      refine lv_aload_n hx hb dX8_unit_32 rfl (lv_at hl 2 rfl) ?_
      refine lv_dup hx hb dX8_unit_33 rfl ?_
      refine h_getI Z hS cls_5 hi0 (by decide) rfl fl_X8_27_5 dX8_unit_34 h (fun x15 h => ?_)
      refine lv_iconst (v := (1 : Int32)) hx hb dX8_unit_37 (by decide) ?_
      refine lv_isub hx hb dX8_unit_38 ?_
      refine h_putI Z hS cls_5 hi0 (by decide) rfl rfl rfl fl_X8_27_5 dX8_unit_39 h (fun σ16 H locs hS h => ?_)
      refine lv_aload_n hx hb dX8_unit_42 rfl (lv_at hl 0 rfl) ?_
      exact a_aret Z hS B G dX8_unit_43 h
  · subst ea1
    have hj3 := ha1 j3 rfl
    have hl : lv_has ls 5 [(2, .int x2), (0, .ref (ad i0)), (1, .ref (ad j3))] := hl
    refine lv_aload_n hx hb dX8_unit_44 rfl (lv_at hl 2 rfl) ?_
    refine lv_ifnonnull (tgt := 72) hx hb dX8_unit_45 (by decide) ?_
    refine lv_aload_n hx hb dX8_unit_72 rfl (lv_at hl 2 rfl) ?_
    refine lv_ifnonnull (tgt := 83) hx hb dX8_unit_73 (by decide) ?_
    refine lv_aload_n hx hb dX8_unit_83 rfl (lv_at hl 2 rfl) ?_
    refine lv_astore_n (lv' := [(3, .ref (ad j3)), (2, .int x2), (0, .ref (ad i0)), (1, .ref (ad j3))]) hx hb dX8_unit_84 rfl hl (by decide) rfl (fun ls hl => ?_)
    refine lv_aload_n hx hb dX8_unit_85 rfl (lv_at hl 2 rfl) ?_
    refine lv_aload_n hx hb dX8_unit_86 rfl (lv_at hl 2 rfl) ?_
    refine h_cim hS h (fun z hz => h_rV (rest := [.ref (ad i0)]) Z hS hi0 rfl v_X8_34 (w_X8_look hi0 hz) rfl rfl ⟨by show 0 + 1 ≤ qf + 97; omega, by show 8 + (1 + 11) + (0) ≤ ql + 2318; omega⟩ rfl hl.1 rfl (Nat.le_of_ble_eq_true rfl) B.cl B.sl dX8_unit_87) (fun σ46 x47 H locs hS h => ?_)
    refine h_ci hS h (fun z hz => h_rS (rest := [.ref (ad i0)]) Z hS v_X8_68 (w_X8_isSign hz) rfl rfl ⟨by show 0 + 1 ≤ qf + 97; omega, by show 8 + (1 + 11) + (0) ≤ ql + 2318; omega⟩ rfl hl.1 rfl (Nat.le_of_ble_eq_true rfl) B.cl B.sl dX8_unit_90) (fun x48 H locs hS h => ?_)
    refine a_call (av := [.ref (ad i0), .int x48]) (rest := []) Z hex hS B G (en_V (rest := []) Z hS hi0 rfl v_X8_30 rfl rfl dX8_unit_93) q628 ⟨by show 8 + 1 ≤ qf + 97; omega, by show 8 + (2 + 11) + (200) ≤ ql + 2318; omega⟩ hl.1 (Nat.le_of_ble_eq_true rfl) dX8_unit_93 h (fun z hz => w_X8_take B.2.2.2.2.1 B.2.2.2.2.2 hi0 hz) (fun σ49 τ49 x50 ad49 H locs cl sl g49 hS B h => ?_)
    have G := G.trans g49
    have ea51 := g49.ad hi0
    replace hi0 := g49.sh hi0
    have ea52 := g49.adm hj3 (by decide)
    replace hj3 := g49.shm hj3 (by decide)
    replace hl : lv_has ls 5 [(3, .ref (ad49 j3)), (2, .int x2), (0, .ref (ad49 i0)), (1, .ref (ad49 j3))] := by rw [ea52, ea51]; exact hl
    refine lv_istore (lv' := [(4, .int x50), (3, .ref (ad49 j3)), (2, .int x2), (0, .ref (ad49 i0)), (1, .ref (ad49 j3))]) hx hb dX8_unit_96 hl (by decide) rfl (fun ls hl => ?_)
    refine a_newD Z hS B cls_12 dv_12 nc_12 q814 q815 q101 dX8_unit_98 h (fun ad53 σ53 τ53 j54 H ga gb gc hj54 hS B h => ?_)
    have g53 : Gx τ49 ad49 τ53 ad53 := ⟨ga, gb, gc⟩
    have G := G.trans g53
    generalize cl + 1 = cl at B ⊢
    generalize sl + 3 = sl at B ⊢
    have ea55 := g53.ad hi0
    replace hi0 := g53.sh hi0
    have ea56 := g53.adm hj3 (by decide)
    replace hj3 := g53.shm hj3 (by decide)
    replace hl : lv_has ls 5 [(4, .int x50), (3, .ref (ad53 j3)), (2, .int x2), (0, .ref (ad53 i0)), (1, .ref (ad53 j3))] := by rw [ea56, ea55]; exact hl
    refine lv_dup hx hb dX8_unit_101 rfl ?_
    refine lv_aload_n hx hb dX8_unit_102 rfl (lv_at hl 1 rfl) ?_
    refine lv_aload_n hx hb dX8_unit_103 rfl (lv_at hl 3 rfl) ?_
    refine a_call (av := [.ref (ad53 i0)]) (rest := [.ref (ad53 j3), .ref (ad53 j54), .ref (ad53 j54)]) Z hex hS B G (en_V (rest := [.ref (ad53 j3), .ref (ad53 j54), .ref (ad53 j54)]) Z hS hi0 rfl v_X8_64 rfl rfl dX8_unit_104) q733 ⟨by show 96 + 1 ≤ qf + 97; omega, by show 8 + (3 + 11) + (2296) ≤ ql + 2318; omega⟩ hl.1 (Nat.le_of_ble_eq_true rfl) dX8_unit_104 h (fun z hz => w_X8_sum 8 B.2.2.2.2.1 B.2.2.2.2.2 hi0 hz) (fun σ57 τ57 j58 ad57 H locs cl sl g57 hS B h => ?_)
    have G := G.trans g57
    obtain ⟨hj58, h⟩ := gd_el h
    replace hj58 := isSh_m hj58
    have ea59 := g57.ad hi0
    replace hi0 := g57.sh hi0
    have ea60 := g57.adm hj3 (by decide)
    replace hj3 := g57.shm hj3 (by decide)
    have ea61 := g57.ad hj54
    replace hj54 := g57.sh hj54
    replace hl : lv_has ls 5 [(4, .int x50), (3, .ref (ad57 j3)), (2, .int x2), (0, .ref (ad57 i0)), (1, .ref (ad57 j3))] := by rw [ea60, ea59]; exact hl
    refine W_stk (st' := [.ref (ad57 j58), .ref (ad57 j3), .ref (ad57 j54), .ref (ad57 j54)]) (by first | (rw [ea60, ea61]; done) | (rw [ea60, ea61]; rfl)) ?_
    refine lv_iload hx hb dX8_unit_107 (lv_at hl 0 rfl) ?_
    refine h_cm hS h (fun z hz => h_rI (rest := [.ref (ad57 j54)]) Z hS vc_X8_102 (w_X17_init hj54 hj3 hj58 hz) rfl rfl ⟨by show 1 + 1 ≤ qf + 97; omega, by show 8 + (4 + 11) + (12) ≤ ql + 2318; omega⟩ rfl hl.1 rfl (Nat.le_of_ble_eq_true rfl) B.cl B.sl dX8_unit_109) (fun σ62 H locs hS h => ?_)
    exact a_aret Z hS B G dX8_unit_112 h
def rmr_X8_unit : Nat → Nat × Nat
 | 0 => (0, 0)
 | d + 1 => ((rmr_X8_unit d).1 + 97, (rmr_X8_unit d).2 + 2318)
theorem w_X8_unit : ∀ (d : Nat) {σ : Mem} {τ : Shp} {ad : Nat → Nat} {i0 : Nat} {a1 : Option Nat} (_ : sC τ ≤ LCl) (_ : sL τ ≤ LSl) (hi0 : sS τ i0 = (15, 0)) (ha1 : ∀ t, a1 = some t → sS τ t ∈ [(18, 0), (19, 0), (20, 0)]) {r : (Rs Nat)}, f_X8_unit d σ τ i0 a1 = some r → Mg l yX8_unit (ws_ yX8_unit cX8_unit 5 (some (.object "ClogHouse$Condition"))) (rmA (rmr_X8_unit d).1 (rmr_X8_unit d).2 τ) (va_Pc [.ref (ad i0), va_rf (a1.map ad)] (PreG D (Ew D A) A ad (sS τ) σ)) (QR D A ad τ vN r) A := by
  intro d
  induction d with
  | zero => intro σ τ ad i0 a1 h1 h2 hi0 ha1 r h; cases h
  | succ d ih => intro σ τ ad i0 a1 h1 h2 hi0 ha1 r h; exact w_X8_unit_b (qf := (rmr_X8_unit d).1) (ql := (rmr_X8_unit d).2) ih h1 h2 hi0 ha1 h
end
