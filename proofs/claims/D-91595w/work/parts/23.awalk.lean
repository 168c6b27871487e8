set_option maxRecDepth 100000
theorem dX8_with_0 : decode cX8_with 0 = .ok (.aload_n 0, 1) := by decide +kernel
theorem dX8_with_1 : decode cX8_with 1 = .ok (.aload_n 0, 1) := by decide +kernel
theorem dX8_with_2 : decode cX8_with 2 = .ok (.invokevirtual 34, 3) := by decide +kernel
theorem dX8_with_5 : decode cX8_with 5 = .ok (.bipush 63, 2) := by decide +kernel
theorem dX8_with_7 : decode cX8_with 7 = .ok (.if_icmp .ne 7, 3) := by decide +kernel
theorem dX8_with_10 : decode cX8_with 10 = .ok (.iconst 1, 1) := by decide +kernel
theorem dX8_with_11 : decode cX8_with 11 = .ok (.goto 4, 3) := by decide +kernel
theorem dX8_with_14 : decode cX8_with 14 = .ok (.iconst 0, 1) := by decide +kernel
theorem dX8_with_15 : decode cX8_with 15 = .ok (.invokevirtual 30, 3) := by decide +kernel
theorem dX8_with_18 : decode cX8_with 18 = .ok (.istore_n 3, 1) := by decide +kernel
theorem dX8_with_19 : decode cX8_with 19 = .ok (.new 43, 3) := by decide +kernel
theorem dX8_with_22 : decode cX8_with 22 = .ok (.dup, 1) := by decide +kernel
theorem dX8_with_23 : decode cX8_with 23 = .ok (.iload_n 1, 1) := by decide +kernel
theorem dX8_with_24 : decode cX8_with 24 = .ok (.aload_n 2, 1) := by decide +kernel
theorem dX8_with_25 : decode cX8_with 25 = .ok (.aload_n 0, 1) := by decide +kernel
theorem dX8_with_26 : decode cX8_with 26 = .ok (.invokevirtual 64, 3) := by decide +kernel
theorem dX8_with_29 : decode cX8_with 29 = .ok (.invokespecial 72, 3) := by decide +kernel
theorem dX8_with_32 : decode cX8_with 32 = .ok (.areturn, 1) := by decide +kernel
section
variable {p : Program} {l : Launch} {e : Env} {s : State} {m : MethodId} {args : Array Value} {below : List Frame} {meth : Method} {c : Code} {D : gD} {A : Nat → Prop} {ad : Nat → Nat} {τ : Shp} {σ : Mem}
set_option maxRecDepth 100000 in
set_option maxHeartbeats 4000000 in
theorem w_X8_with {i0 : Nat} {a1 : Int32} {a2 : Nat} (hc0 : sC τ ≤ LCl) (hs0 : sL τ ≤ LSl) (hi0 : sS τ i0 = (15, 0)) (ha2 : sS τ a2 ∈ [(22, 0), (17, 0), (16, 0)]) {r : (Rs Nat)} (h : f_X8_with σ τ i0 a1 a2 = some r) : Mg l yX8_with (ws_ yX8_with cX8_with 4 (some (.object "ClogHouse$Clause"))) (rmA 97 2318 τ) (va_Pc [.ref (ad i0), .int a1, .ref (ad a2)] (PreG D (Ew D A) A ad (sS τ) σ)) (QR D A ad τ vN r) A := by
  refine a_met hc0 hs0 (by decide) (Nat.le_of_ble_eq_true rfl) (fun p e s m args below meth c ls Z hnm hex hS B G hl => ?_)
  have hx := Z.1
  have hb := Z.2.1
  have hown := Z.2.2.2.2.2.1
  have hts := Z.2.2.2.2.2.2.1
  refine (?_ : ∀ cl sl, Bd (sC τ) (sL τ) (rmA 97 2318 τ) τ cl sl → W p l e (rmA 97 2318 τ) s m args below meth c s.heap [] cl sl (GQ below (QR D A ad τ vN r) args s A) (F0 m 0 ls [])) 0 0 B
  clear B
  intro cl sl B
  unfold f_X8_with at h
  refine lv_aload_n hx hb dX8_with_0 rfl (lv_at hl 0 rfl) ?_
  refine lv_aload_n hx hb dX8_with_1 rfl (lv_at hl 0 rfl) ?_
  refine h_cim hS h (fun z hz => h_rV (rest := [.ref (ad i0)]) Z hS hi0 rfl v_X8_34 (w_X8_look hi0 hz) rfl rfl ⟨Nat.le_of_ble_eq_true rfl, Nat.le_of_ble_eq_true rfl⟩ rfl hl.1 rfl (Nat.le_of_ble_eq_true rfl) B.cl B.sl dX8_with_2) (fun σ1 x2 H locs hS h => ?_)
  refine lv_bipush (v := (63 : Int32)) hx hb dX8_with_5 (by decide) ?_
  obtain ⟨x4, hp5, h⟩ := bnd_el h
  have K5 : ∀ (H : Heap) (locs : List Loc) (ls : Array Slot), St D A ad (sS τ) σ1 s.heap H locs → lv_has ls 4 [(0, .ref (ad i0)), (1, .int a1), (2, .ref (ad a2))] → W p l e (rmA 97 2318 τ) s m args below meth c H locs cl sl (GQ below (QR D A ad τ vN r) args s A) (F0 m 15 ls [.int x4, .ref (ad i0)]) := by
    intro H locs ls hS hl
    refine a_call (av := [.ref (ad i0), .int x4]) (rest := []) Z hex hS B G (en_V (rest := []) Z hS hi0 rfl v_X8_30 rfl rfl dX8_with_15) q628 ⟨Nat.le_of_ble_eq_true rfl, Nat.le_of_ble_eq_true rfl⟩ hl.1 (Nat.le_of_ble_eq_true rfl) dX8_with_15 h (fun z hz => w_X8_take B.2.2.2.2.1 B.2.2.2.2.2 hi0 hz) (fun σ6 τ6 x7 ad6 H locs cl sl g6 hS B h => ?_)
    have G := G.trans g6
    have ea8 := g6.ad hi0
    replace hi0 := g6.sh hi0
    have ea9 := g6.adm ha2 (by decide)
    replace ha2 := g6.shm ha2 (by decide)
    replace hl : lv_has ls 4 [(0, .ref (ad6 i0)), (1, .int a1), (2, .ref (ad6 a2))] := by rw [ea8, ea9]; exact hl
    refine lv_istore_n (lv' := [(3, .int x7), (0, .ref (ad6 i0)), (1, .int a1), (2, .ref (ad6 a2))]) hx hb dX8_with_18 rfl hl (by decide) rfl (fun ls hl => ?_)
    refine a_newD Z hS B cls_13 dv_13 nc_13 q849 q850 q102 dX8_with_19 h (fun ad10 σ10 τ10 j11 H ga gb gc hj11 hS B h => ?_)
    have g10 : Gx τ6 ad6 τ10 ad10 := ⟨ga, gb, gc⟩
    have G := G.trans g10
    generalize cl + 1 = cl at B ⊢
    generalize sl + 4 = sl at B ⊢
    have ea12 := g10.ad hi0
    replace hi0 := g10.sh hi0
    have ea13 := g10.adm ha2 (by decide)
    replace ha2 := g10.shm ha2 (by decide)
    replace hl : lv_has ls 4 [(3, .int x7), (0, .ref (ad10 i0)), (1, .int a1), (2, .ref (ad10 a2))] := by rw [ea12, ea13]; exact hl
    refine lv_dup hx hb dX8_with_22 rfl ?_
    refine lv_iload_n hx hb dX8_with_23 rfl (lv_at hl 2 rfl) ?_
    refine lv_aload_n hx hb dX8_with_24 rfl (lv_at hl 3 rfl) ?_
    refine lv_aload_n hx hb dX8_with_25 rfl (lv_at hl 1 rfl) ?_
    refine a_call (av := [.ref (ad10 i0)]) (rest := [.ref (ad10 a2), .int a1, .ref (ad10 j11), .ref (ad10 j11)]) Z hex hS B G (en_V (rest := [.ref (ad10 a2), .int a1, .ref (ad10 j11), .ref (ad10 j11)]) Z hS hi0 rfl v_X8_64 rfl rfl dX8_with_26) q733 ⟨Nat.le_of_ble_eq_true rfl, Nat.le_of_ble_eq_true rfl⟩ hl.1 (Nat.le_of_ble_eq_true rfl) dX8_with_26 h (fun z hz => w_X8_sum 8 B.2.2.2.2.1 B.2.2.2.2.2 hi0 hz) (fun σ14 τ14 j15 ad14 H locs cl sl g14 hS B h => ?_)
    have G := G.trans g14
    obtain ⟨hj15, h⟩ := gd_el h
    replace hj15 := isSh_m hj15
    have ea16 := g14.ad hi0
    replace hi0 := g14.sh hi0
    have ea17 := g14.adm ha2 (by decide)
    replace ha2 := g14.shm ha2 (by decide)
    have ea18 := g14.ad hj11
    replace hj11 := g14.sh hj11
    replace hl : lv_has ls 4 [(3, .int x7), (0, .ref (ad14 i0)), (1, .int a1), (2, .ref (ad14 a2))] := by rw [ea16, ea17]; exact hl
    refine W_stk (st' := [.ref (ad14 j15), .ref (ad14 a2), .int a1, .ref (ad14 j11), .ref (ad14 j11)]) (by first | (rw [ea17, ea18]; done) | (rw [ea17, ea18]; rfl)) ?_
    refine h_cm hS h (fun z hz => h_rI (rest := [.ref (ad14 j11)]) Z hS vc_X8_72 (w_X18_init hj11 (fun t ht => by cases ht; exact ha2) hj15 hz) rfl rfl ⟨Nat.le_of_ble_eq_true rfl, Nat.le_of_ble_eq_true rfl⟩ rfl hl.1 rfl (Nat.le_of_ble_eq_true rfl) B.cl B.sl dX8_with_29) (fun σ19 H locs hS h => ?_)
    exact a_aret Z hS B G dX8_with_32 h
  clear h
  have h := hp5
  clear hp5
  refine lv_icmp_ne (tgt := 14) hx hb dX8_with_7 (by decide) (fun c3 => ?_) (fun c3 => ?_)
  · have h := if_f h c3
    refine lv_iconst (v := (0 : Int32)) hx hb dX8_with_14 (by decide) ?_
    cases h
    exact K5 _ _ _ hS (lv_sub hl [0, 1, 2] rfl)
  · have h := if_t h c3
    refine lv_iconst (v := (1 : Int32)) hx hb dX8_with_10 (by decide) ?_
    refine lv_goto (tgt := 15) hx hb dX8_with_11 (by decide) ?_
    cases h
    exact K5 _ _ _ hS (lv_sub hl [0, 1, 2] rfl)
end
theorem dX8_clause_0 : decode cX8_clause 0 = .ok (.aload_n 0, 1) := by decide +kernel
theorem dX8_clause_1 : decode cX8_clause 1 = .ok (.invokevirtual 34, 3) := by decide +kernel
theorem dX8_clause_4 : decode cX8_clause 4 = .ok (.istore_n 1, 1) := by decide +kernel
theorem dX8_clause_5 : decode cX8_clause 5 = .ok (.aload_n 0, 1) := by decide +kernel
theorem dX8_clause_6 : decode cX8_clause 6 = .ok (.iload_n 1, 1) := by decide +kernel
theorem dX8_clause_7 : decode cX8_clause 7 = .ok (.iconst (-1), 1) := by decide +kernel
theorem dX8_clause_8 : decode cX8_clause 8 = .ok (.if_icmp .eq 16, 3) := by decide +kernel
theorem dX8_clause_11 : decode cX8_clause 11 = .ok (.ldc 48, 2) := by decide +kernel
theorem dX8_clause_13 : decode cX8_clause 13 = .ok (.iload_n 1, 1) := by decide +kernel
theorem dX8_clause_14 : decode cX8_clause 14 = .ok (.invokevirtual 50, 3) := by decide +kernel
theorem dX8_clause_17 : decode cX8_clause 17 = .ok (.ifCond .lt 7, 3) := by decide +kernel
theorem dX8_clause_20 : decode cX8_clause 20 = .ok (.iconst 1, 1) := by decide +kernel
theorem dX8_clause_21 : decode cX8_clause 21 = .ok (.goto 4, 3) := by decide +kernel
theorem dX8_clause_24 : decode cX8_clause 24 = .ok (.iconst 0, 1) := by decide +kernel
theorem dX8_clause_25 : decode cX8_clause 25 = .ok (.invokevirtual 30, 3) := by decide +kernel
theorem dX8_clause_28 : decode cX8_clause 28 = .ok (.istore_n 2, 1) := by decide +kernel
theorem dX8_clause_29 : decode cX8_clause 29 = .ok (.aload_n 0, 1) := by decide +kernel
theorem dX8_clause_30 : decode cX8_clause 30 = .ok (.aload_n 0, 1) := by decide +kernel
theorem dX8_clause_31 : decode cX8_clause 31 = .ok (.invokevirtual 34, 3) := by decide +kernel
theorem dX8_clause_34 : decode cX8_clause 34 = .ok (.bipush 58, 2) := by decide +kernel
theorem dX8_clause_36 : decode cX8_clause 36 = .ok (.if_icmp .ne 7, 3) := by decide +kernel
theorem dX8_clause_39 : decode cX8_clause 39 = .ok (.iconst 1, 1) := by decide +kernel
theorem dX8_clause_40 : decode cX8_clause 40 = .ok (.goto 4, 3) := by decide +kernel
theorem dX8_clause_43 : decode cX8_clause 43 = .ok (.iconst 0, 1) := by decide +kernel
theorem dX8_clause_44 : decode cX8_clause 44 = .ok (.invokevirtual 30, 3) := by decide +kernel
theorem dX8_clause_47 : decode cX8_clause 47 = .ok (.istore_n 3, 1) := by decide +kernel
theorem dX8_clause_48 : decode cX8_clause 48 = .ok (.aload_n 0, 1) := by decide +kernel
theorem dX8_clause_49 : decode cX8_clause 49 = .ok (.invokevirtual 34, 3) := by decide +kernel
theorem dX8_clause_52 : decode cX8_clause 52 = .ok (.istore_n 1, 1) := by decide +kernel
theorem dX8_clause_53 : decode cX8_clause 53 = .ok (.iload_n 1, 1) := by decide +kernel
theorem dX8_clause_54 : decode cX8_clause 54 = .ok (.bipush 33, 2) := by decide +kernel
theorem dX8_clause_56 : decode cX8_clause 56 = .ok (.if_icmp .eq 9, 3) := by decide +kernel
theorem dX8_clause_59 : decode cX8_clause 59 = .ok (.iload_n 1, 1) := by decide +kernel
theorem dX8_clause_60 : decode cX8_clause 60 = .ok (.bipush 40, 2) := by decide +kernel
theorem dX8_clause_62 : decode cX8_clause 62 = .ok (.if_icmp .ne 14, 3) := by decide +kernel
theorem dX8_clause_65 : decode cX8_clause 65 = .ok (.aload_n 0, 1) := by decide +kernel
theorem dX8_clause_66 : decode cX8_clause 66 = .ok (.iload_n 2, 1) := by decide +kernel
theorem dX8_clause_67 : decode cX8_clause 67 = .ok (.aload_n 0, 1) := by decide +kernel
theorem dX8_clause_68 : decode cX8_clause 68 = .ok (.aconst_null, 1) := by decide +kernel
theorem dX8_clause_69 : decode cX8_clause 69 = .ok (.invokevirtual 56, 3) := by decide +kernel
theorem dX8_clause_72 : decode cX8_clause 72 = .ok (.invokevirtual 60, 3) := by decide +kernel
theorem dX8_clause_75 : decode cX8_clause 75 = .ok (.areturn, 1) := by decide +kernel
theorem dX8_clause_76 : decode cX8_clause 76 = .ok (.aload_n 0, 1) := by decide +kernel
theorem dX8_clause_77 : decode cX8_clause 77 = .ok (.invokevirtual 64, 3) := by decide +kernel
theorem dX8_clause_80 : decode cX8_clause 80 = .ok (.astore 4, 2) := by decide +kernel
theorem dX8_clause_82 : decode cX8_clause 82 = .ok (.aload_n 0, 1) := by decide +kernel
theorem dX8_clause_83 : decode cX8_clause 83 = .ok (.invokevirtual 34, 3) := by decide +kernel
theorem dX8_clause_86 : decode cX8_clause 86 = .ok (.invokestatic 68, 3) := by decide +kernel
theorem dX8_clause_89 : decode cX8_clause 89 = .ok (.ifCond .eq 17, 3) := by decide +kernel
theorem dX8_clause_92 : decode cX8_clause 92 = .ok (.aload_n 0, 1) := by decide +kernel
theorem dX8_clause_93 : decode cX8_clause 93 = .ok (.iload_n 2, 1) := by decide +kernel
theorem dX8_clause_94 : decode cX8_clause 94 = .ok (.aload_n 0, 1) := by decide +kernel
theorem dX8_clause_95 : decode cX8_clause 95 = .ok (.aload 4, 2) := by decide +kernel
theorem dX8_clause_97 : decode cX8_clause 97 = .ok (.invokevirtual 56, 3) := by decide +kernel
theorem dX8_clause_100 : decode cX8_clause 100 = .ok (.invokevirtual 60, 3) := by decide +kernel
theorem dX8_clause_103 : decode cX8_clause 103 = .ok (.goto 14, 3) := by decide +kernel
theorem dX8_clause_106 : decode cX8_clause 106 = .ok (.new 43, 3) := by decide +kernel
theorem dX8_clause_109 : decode cX8_clause 109 = .ok (.dup, 1) := by decide +kernel
theorem dX8_clause_110 : decode cX8_clause 110 = .ok (.iload_n 2, 1) := by decide +kernel
theorem dX8_clause_111 : decode cX8_clause 111 = .ok (.aconst_null, 1) := by decide +kernel
theorem dX8_clause_112 : decode cX8_clause 112 = .ok (.aload 4, 2) := by decide +kernel
theorem dX8_clause_114 : decode cX8_clause 114 = .ok (.invokespecial 72, 3) := by decide +kernel
theorem dX8_clause_117 : decode cX8_clause 117 = .ok (.areturn, 1) := by decide +kernel
section
variable {p : Program} {l : Launch} {e : Env} {s : State} {m : MethodId} {args : Array Value} {below : List Frame} {meth : Method} {c : Code} {D : gD} {A : Nat → Prop} {ad : Nat → Nat} {τ : Shp} {σ : Mem}
set_option maxRecDepth 100000 in
set_option maxHeartbeats 4000000 in
theorem w_X8_clause {i0 : Nat} (hc0 : sC τ ≤ LCl) (hs0 : sL τ ≤ LSl) (hi0 : sS τ i0 = (15, 0)) {r : (Rs Nat)} (h : f_X8_clause σ τ i0 = some r) : Mg l yX8_clause (ws_ yX8_clause cX8_clause 5 (some (.object "ClogHouse$Clause"))) (rmA 780 18624 τ) (va_Pc [.ref (ad i0)] (PreG D (Ew D A) A ad (sS τ) σ)) (QR D A ad τ vN r) A := by
  refine a_met hc0 hs0 (by decide) (Nat.le_of_ble_eq_true rfl) (fun p e s m args below meth c ls Z hnm hex hS B G hl => ?_)
  have hx := Z.1
  have hb := Z.2.1
  have hown := Z.2.2.2.2.2.1
  have hts := Z.2.2.2.2.2.2.1
  refine (?_ : ∀ cl sl, Bd (sC τ) (sL τ) (rmA 780 18624 τ) τ cl sl → W p l e (rmA 780 18624 τ) s m args below meth c s.heap [] cl sl (GQ below (QR D A ad τ vN r) args s A) (F0 m 0 ls [])) 0 0 B
  clear B
  intro cl sl B
  unfold f_X8_clause at h
  refine lv_aload_n hx hb dX8_clause_0 rfl (lv_at hl 0 rfl) ?_
  refine h_cim hS h (fun z hz => h_rV (rest := []) Z hS hi0 rfl v_X8_34 (w_X8_look hi0 hz) rfl rfl ⟨Nat.le_of_ble_eq_true rfl, Nat.le_of_ble_eq_true rfl⟩ rfl hl.1 rfl (Nat.le_of_ble_eq_true rfl) B.cl B.sl dX8_clause_1) (fun σ1 x2 H locs hS h => ?_)
  refine lv_istore_n (lv' := [(1, .int x2), (0, .ref (ad i0))]) hx hb dX8_clause_4 rfl hl (by decide) rfl (fun ls hl => ?_)
  refine lv_aload_n hx hb dX8_clause_5 rfl (lv_at hl 1 rfl) ?_
  refine lv_iload_n hx hb dX8_clause_6 rfl (lv_at hl 0 rfl) ?_
  refine lv_iconst (v := (-1 : Int32)) hx hb dX8_clause_7 (by decide) ?_
  obtain ⟨x4, hp5, h⟩ := bnd_el h
  have K5 : ∀ (H : Heap) (locs : List Loc) (ls : Array Slot), St D A ad (sS τ) σ1 s.heap H locs → lv_has ls 5 [(0, .ref (ad i0))] → W p l e (rmA 780 18624 τ) s m args below meth c H locs cl sl (GQ below (QR D A ad τ vN r) args s A) (F0 m 25 ls [.int x4, .ref (ad i0)]) := by
    intro H locs ls hS hl
    refine a_call (av := [.ref (ad i0), .int x4]) (rest := []) Z hex hS B G (en_V (rest := []) Z hS hi0 rfl v_X8_30 rfl rfl dX8_clause_25) q628 ⟨Nat.le_of_ble_eq_true rfl, Nat.le_of_ble_eq_true rfl⟩ hl.1 (Nat.le_of_ble_eq_true rfl) dX8_clause_25 h (fun z hz => w_X8_take B.2.2.2.2.1 B.2.2.2.2.2 hi0 hz) (fun σ6 τ6 x7 ad6 H locs cl sl g6 hS B h => ?_)
    have G := G.trans g6
    have ea8 := g6.ad hi0
    replace hi0 := g6.sh hi0
    replace hl : lv_has ls 5 [(0, .ref (ad6 i0))] := by rw [ea8]; exact hl
    refine lv_istore_n (lv' := [(2, .int x7), (0, .ref (ad6 i0))]) hx hb dX8_clause_28 rfl hl (by decide) rfl (fun ls hl => ?_)
    refine lv_aload_n hx hb dX8_clause_29 rfl (lv_at hl 1 rfl) ?_
    refine lv_aload_n hx hb dX8_clause_30 rfl (lv_at hl 1 rfl) ?_
    refine h_cim hS h (fun z hz => h_rV (rest := [.ref (ad6 i0)]) Z hS hi0 rfl v_X8_34 (w_X8_look hi0 hz) rfl rfl ⟨Nat.le_of_ble_eq_true rfl, Nat.le_of_ble_eq_true rfl⟩ rfl hl.1 rfl (Nat.le_of_ble_eq_true rfl) B.cl B.sl dX8_clause_31) (fun σ9 x10 H locs hS h => ?_)
    refine lv_bipush (v := (58 : Int32)) hx hb dX8_clause_34 (by decide) ?_
    obtain ⟨x12, hp13, h⟩ := bnd_el h
    have K13 : ∀ (H : Heap) (locs : List Loc) (ls : Array Slot), St D A ad6 (sS τ6) σ9 s.heap H locs → lv_has ls 5 [(0, .ref (ad6 i0)), (2, .int x7)] → W p l e (rmA 780 18624 τ) s m args below meth c H locs cl sl (GQ below (QR D A ad τ vN r) args s A) (F0 m 44 ls [.int x12, .ref (ad6 i0)]) := by
      intro H locs ls hS hl
      refine a_call (av := [.ref (ad6 i0), .int x12]) (rest := []) Z hex hS B G (en_V (rest := []) Z hS hi0 rfl v_X8_30 rfl rfl dX8_clause_44) q628 ⟨Nat.le_of_ble_eq_true rfl, Nat.le_of_ble_eq_true rfl⟩ hl.1 (Nat.le_of_ble_eq_true rfl) dX8_clause_44 h (fun z hz => w_X8_take B.2.2.2.2.1 B.2.2.2.2.2 hi0 hz) (fun σ14 τ14 x15 ad14 H locs cl sl g14 hS B h => ?_)
      have G := G.trans g14
      have ea16 := g14.ad hi0
      replace hi0 := g14.sh hi0
      replace hl : lv_has ls 5 [(0, .ref (ad14 i0)), (2, .int x7)] := by rw [ea16]; exact hl
      refine lv_istore_n (lv' := [(3, .int x15), (0, .ref (ad14 i0)), (2, .int x7)]) hx hb dX8_clause_47 rfl hl (by decide) rfl (fun ls hl => ?_)
      refine lv_aload_n hx hb dX8_clause_48 rfl (lv_at hl 1 rfl) ?_
      refine h_cim hS h (fun z hz => h_rV (rest := []) Z hS hi0 rfl v_X8_34 (w_X8_look hi0 hz) rfl rfl ⟨Nat.le_of_ble_eq_true rfl, Nat.le_of_ble_eq_true rfl⟩ rfl hl.1 rfl (Nat.le_of_ble_eq_true rfl) B.cl B.sl dX8_clause_49) (fun σ17 x18 H locs hS h => ?_)
      refine lv_istore_n (lv' := [(1, .int x18), (3, .int x15), (0, .ref (ad14 i0)), (2, .int x7)]) hx hb dX8_clause_52 rfl hl (by decide) rfl (fun ls hl => ?_)
      refine lv_iload_n hx hb dX8_clause_53 rfl (lv_at hl 0 rfl) ?_
      refine lv_bipush (v := (33 : Int32)) hx hb dX8_clause_54 (by decide) ?_
      refine lv_icmp_eq (tgt := 65) hx hb dX8_clause_56 (by decide) (fun c19 => ?_) (fun c19 => ?_)
      · have h := if_t h c19
        refine lv_aload_n hx hb dX8_clause_65 rfl (lv_at hl 2 rfl) ?_
        refine lv_iload_n hx hb dX8_clause_66 rfl (lv_at hl 3 rfl) ?_
        refine lv_aload_n hx hb dX8_clause_67 rfl (lv_at hl 2 rfl) ?_
        refine lv_null hx hb dX8_clause_68 ?_
        refine a_call (av := [.ref (ad14 i0), .null]) (rest := [.int x7, .ref (ad14 i0)]) Z hex hS B G (en_V (rest := [.int x7, .ref (ad14 i0)]) Z hS hi0 rfl v_X8_56 rfl rfl dX8_clause_69) q701 ⟨Nat.le_of_ble_eq_true rfl, Nat.le_of_ble_eq_true rfl⟩ hl.1 (Nat.le_of_ble_eq_true rfl) dX8_clause_69 h (fun z hz => w_X8_condition_b (rec := f_X8_unit 8) (qf := (rmr_X8_unit 8).1) (ql := (rmr_X8_unit 8).2) (w_X8_unit 8) B.2.2.2.2.1 B.2.2.2.2.2 hi0 (fun t ht => by cases ht) hz) (fun σ20 τ20 j21 ad20 H locs cl sl g20 hS B h => ?_)
        have G := G.trans g20
        obtain ⟨hj21, h⟩ := gd_el h
        replace hj21 := isSh_m hj21
        have ea22 := g20.ad hi0
        replace hi0 := g20.sh hi0
        replace hl : lv_has ls 5 [(1, .int x18), (3, .int x15), (0, .ref (ad20 i0)), (2, .int x7)] := by rw [ea22]; exact hl
        refine W_stk (st' := [.ref (ad20 j21), .int x7, .ref (ad20 i0)]) (by first | (rw [ea22]; done) | (rw [ea22]; rfl)) ?_
        refine a_call (av := [.ref (ad20 i0), .int x7, .ref (ad20 j21)]) (rest := []) Z hex hS B G (en_V (rest := []) Z hS hi0 rfl v_X8_60 rfl rfl dX8_clause_72) q848 ⟨Nat.le_of_ble_eq_true rfl, Nat.le_of_ble_eq_true rfl⟩ hl.1 (Nat.le_of_ble_eq_true rfl) dX8_clause_72 h (fun z hz => w_X8_with B.2.2.2.2.1 B.2.2.2.2.2 hi0 hj21 hz) (fun σ23 τ23 j24 ad23 H locs cl sl g23 hS B h => ?_)
        have G := G.trans g23
        obtain ⟨hj24, h⟩ := gd_el h
        replace hj24 := isSh_1 hj24
        have ea25 := g23.ad hi0
        replace hi0 := g23.sh hi0
        replace hl : lv_has ls 5 [(1, .int x18), (3, .int x15), (0, .ref (ad23 i0)), (2, .int x7)] := by rw [ea25]; exact hl
        exact a_aret Z hS B G dX8_clause_75 h
      · have h := if_f h c19
        refine lv_iload_n hx hb dX8_clause_59 rfl (lv_at hl 0 rfl) ?_
        refine lv_bipush (v := (40 : Int32)) hx hb dX8_clause_60 (by decide) ?_
        refine lv_icmp_ne (tgt := 76) hx hb dX8_clause_62 (by decide) (fun c26 => ?_) (fun c26 => ?_)
        · have h := if_f h c26
          refine lv_aload_n hx hb dX8_clause_76 rfl (lv_at hl 2 rfl) ?_
          refine a_call (av := [.ref (ad14 i0)]) (rest := []) Z hex hS B G (en_V (rest := []) Z hS hi0 rfl v_X8_64 rfl rfl dX8_clause_77) q733 ⟨Nat.le_of_ble_eq_true rfl, Nat.le_of_ble_eq_true rfl⟩ hl.1 (Nat.le_of_ble_eq_true rfl) dX8_clause_77 h (fun z hz => w_X8_sum 8 B.2.2.2.2.1 B.2.2.2.2.2 hi0 hz) (fun σ33 τ33 j34 ad33 H locs cl sl g33 hS B h => ?_)
          have G := G.trans g33
          obtain ⟨hj34, h⟩ := gd_el h
          replace hj34 := isSh_m hj34
          have ea35 := g33.ad hi0
          replace hi0 := g33.sh hi0
          replace hl : lv_has ls 5 [(1, .int x18), (3, .int x15), (0, .ref (ad33 i0)), (2, .int x7)] := by rw [ea35]; exact hl
          refine lv_astore (lv' := [(4, .ref (ad33 j34)), (1, .int x18), (3, .int x15), (0, .ref (ad33 i0)), (2, .int x7)]) hx hb dX8_clause_80 hl (by decide) rfl (fun ls hl => ?_)
          refine lv_aload_n hx hb dX8_clause_82 rfl (lv_at hl 3 rfl) ?_
          refine h_cim hS h (fun z hz => h_rV (rest := []) Z hS hi0 rfl v_X8_34 (w_X8_look hi0 hz) rfl rfl ⟨Nat.le_of_ble_eq_true rfl, Nat.le_of_ble_eq_true rfl⟩ rfl hl.1 rfl (Nat.le_of_ble_eq_true rfl) B.cl B.sl dX8_clause_83) (fun σ36 x37 H locs hS h => ?_)
          refine h_ci hS h (fun z hz => h_rS (rest := []) Z hS v_X8_68 (w_X8_isSign hz) rfl rfl ⟨Nat.le_of_ble_eq_true rfl, Nat.le_of_ble_eq_true rfl⟩ rfl hl.1 rfl (Nat.le_of_ble_eq_true rfl) B.cl B.sl dX8_clause_86) (fun x38 H locs hS h => ?_)
          refine lv_if_eq (tgt := 106) hx hb dX8_clause_89 (by decide) (fun c39 => ?_) (fun c39 => ?_)
          · have h := if_t h c39
            refine a_newD Z hS B cls_13 dv_13 nc_13 q849 q850 q102 dX8_clause_106 h (fun ad40 σ40 τ40 j41 H ga gb gc hj41 hS B h => ?_)
            have g40 : Gx τ33 ad33 τ40 ad40 := ⟨ga, gb, gc⟩
            have G := G.trans g40
            generalize cl + 1 = cl at B ⊢
            generalize sl + 4 = sl at B ⊢
            have ea42 := g40.ad hi0
            replace hi0 := g40.sh hi0
            have ea43 := g40.adm hj34 (by decide)
            replace hj34 := g40.shm hj34 (by decide)
            replace hl : lv_has ls 5 [(4, .ref (ad40 j34)), (1, .int x18), (3, .int x15), (0, .ref (ad40 i0)), (2, .int x7)] := by rw [ea43, ea42]; exact hl
            refine lv_dup hx hb dX8_clause_109 rfl ?_
            refine lv_iload_n hx hb dX8_clause_110 rfl (lv_at hl 4 rfl) ?_
            refine lv_null hx hb dX8_clause_111 ?_
            refine lv_aload hx hb dX8_clause_112 (lv_at hl 0 rfl) ?_
            refine h_cm hS h (fun z hz => h_rI (rest := [.ref (ad40 j41)]) Z hS vc_X8_72 (w_X18_init hj41 (fun t ht => by cases ht) hj34 hz) rfl rfl ⟨Nat.le_of_ble_eq_true rfl, Nat.le_of_ble_eq_true rfl⟩ rfl hl.1 rfl (Nat.le_of_ble_eq_true rfl) B.cl B.sl dX8_clause_114) (fun σ44 H locs hS h => ?_)
            exact a_aret Z hS B G dX8_clause_117 h
          · have h := if_f h c39
            refine lv_aload_n hx hb dX8_clause_92 rfl (lv_at hl 3 rfl) ?_
            refine lv_iload_n hx hb dX8_clause_93 rfl (lv_at hl 4 rfl) ?_
            refine lv_aload_n hx hb dX8_clause_94 rfl (lv_at hl 3 rfl) ?_
            refine lv_aload hx hb dX8_clause_95 (lv_at hl 0 rfl) ?_
            refine a_call (av := [.ref (ad33 i0), .ref (ad33 j34)]) (rest := [.int x7, .ref (ad33 i0)]) Z hex hS B G (en_V (rest := [.int x7, .ref (ad33 i0)]) Z hS hi0 rfl v_X8_56 rfl rfl dX8_clause_97) q701 ⟨Nat.le_of_ble_eq_true rfl, Nat.le_of_ble_eq_true rfl⟩ hl.1 (Nat.le_of_ble_eq_true rfl) dX8_clause_97 h (fun z hz => w_X8_condition_b (rec := f_X8_unit 8) (qf := (rmr_X8_unit 8).1) (ql := (rmr_X8_unit 8).2) (w_X8_unit 8) B.2.2.2.2.1 B.2.2.2.2.2 hi0 (fun t ht => by cases ht; exact hj34) hz) (fun σ45 τ45 j46 ad45 H locs cl sl g45 hS B h => ?_)
            have G := G.trans g45
            obtain ⟨hj46, h⟩ := gd_el h
            replace hj46 := isSh_m hj46
            have ea47 := g45.ad hi0
            replace hi0 := g45.sh hi0
            have ea48 := g45.adm hj34 (by decide)
            replace hj34 := g45.shm hj34 (by decide)
            replace hl : lv_has ls 5 [(4, .ref (ad45 j34)), (1, .int x18), (3, .int x15), (0, .ref (ad45 i0)), (2, .int x7)] := by rw [ea48, ea47]; exact hl
            refine W_stk (st' := [.ref (ad45 j46), .int x7, .ref (ad45 i0)]) (by first | (rw [ea47]; done) | (rw [ea47]; rfl)) ?_
            refine a_call (av := [.ref (ad45 i0), .int x7, .ref (ad45 j46)]) (rest := []) Z hex hS B G (en_V (rest := []) Z hS hi0 rfl v_X8_60 rfl rfl dX8_clause_100) q848 ⟨Nat.le_of_ble_eq_true rfl, Nat.le_of_ble_eq_true rfl⟩ hl.1 (Nat.le_of_ble_eq_true rfl) dX8_clause_100 h (fun z hz => w_X8_with B.2.2.2.2.1 B.2.2.2.2.2 hi0 hj46 hz) (fun σ49 τ49 j50 ad49 H locs cl sl g49 hS B h => ?_)
            have G := G.trans g49
            obtain ⟨hj50, h⟩ := gd_el h
            replace hj50 := isSh_1 hj50
            have ea51 := g49.ad hi0
            replace hi0 := g49.sh hi0
            have ea52 := g49.adm hj34 (by decide)
            replace hj34 := g49.shm hj34 (by decide)
            replace hl : lv_has ls 5 [(4, .ref (ad49 j34)), (1, .int x18), (3, .int x15), (0, .ref (ad49 i0)), (2, .int x7)] := by rw [ea52, ea51]; exact hl
            refine lv_goto (tgt := 117) hx hb dX8_clause_103 (by decide) ?_
            exact a_aret Z hS B G dX8_clause_117 h
        · have h := if_t h c26
          refine lv_aload_n hx hb dX8_clause_65 rfl (lv_at hl 2 rfl) ?_
          refine lv_iload_n hx hb dX8_clause_66 rfl (lv_at hl 3 rfl) ?_
          refine lv_aload_n hx hb dX8_clause_67 rfl (lv_at hl 2 rfl) ?_
          refine lv_null hx hb dX8_clause_68 ?_
          refine a_call (av := [.ref (ad14 i0), .null]) (rest := [.int x7, .ref (ad14 i0)]) Z hex hS B G (en_V (rest := [.int x7, .ref (ad14 i0)]) Z hS hi0 rfl v_X8_56 rfl rfl dX8_clause_69) q701 ⟨Nat.le_of_ble_eq_true rfl, Nat.le_of_ble_eq_true rfl⟩ hl.1 (Nat.le_of_ble_eq_true rfl) dX8_clause_69 h (fun z hz => w_X8_condition_b (rec := f_X8_unit 8) (qf := (rmr_X8_unit 8).1) (ql := (rmr_X8_unit 8).2) (w_X8_unit 8) B.2.2.2.2.1 B.2.2.2.2.2 hi0 (fun t ht => by cases ht) hz) (fun σ27 τ27 j28 ad27 H locs cl sl g27 hS B h => ?_)
          have G := G.trans g27
          obtain ⟨hj28, h⟩ := gd_el h
          replace hj28 := isSh_m hj28
          have ea29 := g27.ad hi0
          replace hi0 := g27.sh hi0
          replace hl : lv_has ls 5 [(1, .int x18), (3, .int x15), (0, .ref (ad27 i0)), (2, .int x7)] := by rw [ea29]; exact hl
          refine W_stk (st' := [.ref (ad27 j28), .int x7, .ref (ad27 i0)]) (by first | (rw [ea29]; done) | (rw [ea29]; rfl)) ?_
          refine a_call (av := [.ref (ad27 i0), .int x7, .ref (ad27 j28)]) (rest := []) Z hex hS B G (en_V (rest := []) Z hS hi0 rfl v_X8_60 rfl rfl dX8_clause_72) q848 ⟨Nat.le_of_ble_eq_true rfl, Nat.le_of_ble_eq_true rfl⟩ hl.1 (Nat.le_of_ble_eq_true rfl) dX8_clause_72 h (fun z hz => w_X8_with B.2.2.2.2.1 B.2.2.2.2.2 hi0 hj28 hz) (fun σ30 τ30 j31 ad30 H locs cl sl g30 hS B h => ?_)
          have G := G.trans g30
          obtain ⟨hj31, h⟩ := gd_el h
          replace hj31 := isSh_1 hj31
          have ea32 := g30.ad hi0
          replace hi0 := g30.sh hi0
          replace hl : lv_has ls 5 [(1, .int x18), (3, .int x15), (0, .ref (ad30 i0)), (2, .int x7)] := by rw [ea32]; exact hl
          exact a_aret Z hS B G dX8_clause_75 h
    clear h
    have h := hp13
    clear hp13
    refine lv_icmp_ne (tgt := 43) hx hb dX8_clause_36 (by decide) (fun c11 => ?_) (fun c11 => ?_)
    · have h := if_f h c11
      refine lv_iconst (v := (0 : Int32)) hx hb dX8_clause_43 (by decide) ?_
      cases h
      exact K13 _ _ _ hS (lv_sub hl [1, 0] rfl)
    · have h := if_t h c11
      refine lv_iconst (v := (1 : Int32)) hx hb dX8_clause_39 (by decide) ?_
      refine lv_goto (tgt := 44) hx hb dX8_clause_40 (by decide) ?_
      cases h
      exact K13 _ _ _ hS (lv_sub hl [1, 0] rfl)
  clear h
  have h := hp5
  clear hp5
  refine lv_icmp_eq (tgt := 24) hx hb dX8_clause_8 (by decide) (fun c3 => ?_) (fun c3 => ?_)
  · have h := if_t h c3
    refine lv_iconst (v := (0 : Int32)) hx hb dX8_clause_24 (by decide) ?_
    cases h
    exact K5 _ _ _ hS (lv_sub hl [1] rfl)
  · have h := if_f h c3
    refine h_idx (w := 0) (x := x2) Z hS idxAt_0 vx_X8_50 (Nat.le_of_ble_eq_true rfl) (Nat.le_of_ble_eq_true rfl) B.cl B.sl hl.1 (Nat.le_of_ble_eq_true rfl) (lv_at hl 0 rfl) dX8_clause_11 dX8_clause_13 dX8_clause_14 (fun H locs hS => ?_)
    refine lv_if_lt (tgt := 24) hx hb dX8_clause_17 (by decide) (fun c53 => ?_) (fun c53 => ?_)
    · have h := if_t h c53
      refine lv_iconst (v := (0 : Int32)) hx hb dX8_clause_24 (by decide) ?_
      cases h
      exact K5 _ _ _ hS (lv_sub hl [1] rfl)
    · have h := if_f h c53
      refine lv_iconst (v := (1 : Int32)) hx hb dX8_clause_20 (by decide) ?_
      refine lv_goto (tgt := 25) hx hb dX8_clause_21 (by decide) ?_
      cases h
      exact K5 _ _ _ hS (lv_sub hl [1] rfl)
end
theorem dX8_whole_0 : decode cX8_whole 0 = .ok (.aload_n 0, 1) := by decide +kernel
theorem dX8_whole_1 : decode cX8_whole 1 = .ok (.invokevirtual 38, 3) := by decide +kernel
theorem dX8_whole_4 : decode cX8_whole 4 = .ok (.astore_n 1, 1) := by decide +kernel
theorem dX8_whole_5 : decode cX8_whole 5 = .ok (.aload_n 1, 1) := by decide +kernel
theorem dX8_whole_6 : decode cX8_whole 6 = .ok (.astore_n 2, 1) := by decide +kernel
theorem dX8_whole_7 : decode cX8_whole 7 = .ok (.aload_n 0, 1) := by decide +kernel
theorem dX8_whole_8 : decode cX8_whole 8 = .ok (.invokevirtual 34, 3) := by decide +kernel
theorem dX8_whole_11 : decode cX8_whole 11 = .ok (.iconst (-1), 1) := by decide +kernel
theorem dX8_whole_12 : decode cX8_whole 12 = .ok (.if_icmp .eq 38, 3) := by decide +kernel
theorem dX8_whole_15 : decode cX8_whole 15 = .ok (.aload_n 0, 1) := by decide +kernel
theorem dX8_whole_16 : decode cX8_whole 16 = .ok (.aload_n 0, 1) := by decide +kernel
theorem dX8_whole_17 : decode cX8_whole 17 = .ok (.invokevirtual 34, 3) := by decide +kernel
theorem dX8_whole_20 : decode cX8_whole 20 = .ok (.bipush 59, 2) := by decide +kernel
theorem dX8_whole_22 : decode cX8_whole 22 = .ok (.if_icmp .ne 7, 3) := by decide +kernel
theorem dX8_whole_25 : decode cX8_whole 25 = .ok (.iconst 1, 1) := by decide +kernel
theorem dX8_whole_26 : decode cX8_whole 26 = .ok (.goto 4, 3) := by decide +kernel
theorem dX8_whole_29 : decode cX8_whole 29 = .ok (.iconst 0, 1) := by decide +kernel
theorem dX8_whole_30 : decode cX8_whole 30 = .ok (.invokevirtual 30, 3) := by decide +kernel
theorem dX8_whole_33 : decode cX8_whole 33 = .ok (.istore_n 3, 1) := by decide +kernel
theorem dX8_whole_34 : decode cX8_whole 34 = .ok (.aload_n 2, 1) := by decide +kernel
theorem dX8_whole_35 : decode cX8_whole 35 = .ok (.aload_n 0, 1) := by decide +kernel
theorem dX8_whole_36 : decode cX8_whole 36 = .ok (.invokevirtual 38, 3) := by decide +kernel
theorem dX8_whole_39 : decode cX8_whole 39 = .ok (.putfield 42, 3) := by decide +kernel
theorem dX8_whole_42 : decode cX8_whole 42 = .ok (.aload_n 2, 1) := by decide +kernel
theorem dX8_whole_43 : decode cX8_whole 43 = .ok (.getfield 42, 3) := by decide +kernel
theorem dX8_whole_46 : decode cX8_whole 46 = .ok (.astore_n 2, 1) := by decide +kernel
theorem dX8_whole_47 : decode cX8_whole 47 = .ok (.goto (-40), 3) := by decide +kernel
theorem dX8_whole_50 : decode cX8_whole 50 = .ok (.aload_n 1, 1) := by decide +kernel
theorem dX8_whole_51 : decode cX8_whole 51 = .ok (.areturn, 1) := by decide +kernel
section
variable {p : Program} {l : Launch} {e : Env} {s : State} {m : MethodId} {args : Array Value} {below : List Frame} {meth : Method} {c : Code} {D : gD} {A : Nat → Prop} {ad : Nat → Nat} {τ : Shp} {σ : Mem}
set_option maxRecDepth 100000 in
set_option maxHeartbeats 4000000 in
theorem w_X8_whole_L7 (Z : Cz D (Ew D A) A cX8_whole 4 (some (.object "ClogHouse$Clause")) RX8 p s m args meth c) (hex : c.exceptionTable.toList.map (fun h => (h.startPc, h.endPc, h.handlerPc, h.catchType)) = []) {u0 : Nat} {u1 : Nat} {r : (Rs Nat)} {k50 : Mem → Shp → Option (Rs Nat)}
    (hk50 : ∀ (σ : Mem) (τ1 : Shp)  (ad1 : Nat → Nat) (cl sl : Nat) (H : Heap) (locs : List Loc) (ls : Array Slot), Gx τ ad τ1 ad1 → ∀ (_ : sS τ1 u1 = (23, 0)), St D A ad1 (sS τ1) σ s.heap H locs → Bd (sC τ) (sL τ) (rmA 781 18648 τ) τ1 cl sl → lv_has ls 4 [(1, .ref (ad1 u1))] → k50 σ τ1 = some r → W p l e (rmA 781 18648 τ) s m args below meth c H locs cl sl (GQ below (QR D A ad τ vN r) args s A) (F0 m 50 ls [])) :
    ∀ (n : Nat) (σ : Mem) (τ1 : Shp) (v2 : Nat) (ad1 : Nat → Nat) (cl sl : Nat) (H : Heap) (locs : List Loc) (ls : Array Slot), Gx τ ad τ1 ad1 → ∀ (hu0 : sS τ1 u0 = (15, 0)) (hu1 : sS τ1 u1 = (23, 0)) (hv2 : sS τ1 v2 = (23, 0)), St D A ad1 (sS τ1) σ s.heap H locs → Bd (sC τ) (sL τ) (rmA 781 18648 τ) τ1 cl sl → lv_has ls 4 [(0, .ref (ad1 u0)), (1, .ref (ad1 u1)), (2, .ref (ad1 v2))] → f_X8_whole_L7 k50 u0 u1 n σ τ1 v2 = some r → W p l e (rmA 781 18648 τ) s m args below meth c H locs cl sl (GQ below (QR D A ad τ vN r) args s A) (F0 m 7 ls []) := by
  have hx := Z.1
  have hb := Z.2.1
  have hown := Z.2.2.2.2.2.1
  have hts := Z.2.2.2.2.2.2.1
  intro n
  induction n with
  | zero => intro σ τ1 v2 ad1 cl sl H locs ls G hu0 hu1 hv2 hS B hl h; cases h
  | succ n ih =>
    intro σ τ1 v2 ad1 cl sl H locs ls G hu0 hu1 hv2 hS B hl h
    unfold f_X8_whole_L7 at h
    refine lv_aload_n hx hb dX8_whole_7 rfl (lv_at hl 0 rfl) ?_
    refine h_cim hS h (fun z hz => h_rV (rest := []) Z hS hu0 rfl v_X8_34 (w_X8_look hu0 hz) rfl rfl ⟨Nat.le_of_ble_eq_true rfl, Nat.le_of_ble_eq_true rfl⟩ rfl hl.1 rfl (Nat.le_of_ble_eq_true rfl) B.cl B.sl dX8_whole_8) (fun σ4 x5 H locs hS h => ?_)
    refine lv_iconst (v := (-1 : Int32)) hx hb dX8_whole_11 (by decide) ?_
    refine lv_icmp_eq (tgt := 50) hx hb dX8_whole_12 (by decide) (fun c6 => ?_) (fun c6 => ?_)
    · have h := if_t h c6
      exact hk50 _ _ _ _ _ _ _ _ G hu1 hS B (lv_sub hl [1] rfl) h
    · have h := if_f h c6
      refine lv_aload_n hx hb dX8_whole_15 rfl (lv_at hl 0 rfl) ?_
      refine lv_aload_n hx hb dX8_whole_16 rfl (lv_at hl 0 rfl) ?_
      refine h_cim hS h (fun z hz => h_rV (rest := [.ref (ad1 u0)]) Z hS hu0 rfl v_X8_34 (w_X8_look hu0 hz) rfl rfl ⟨Nat.le_of_ble_eq_true rfl, Nat.le_of_ble_eq_true rfl⟩ rfl hl.1 rfl (Nat.le_of_ble_eq_true rfl) B.cl B.sl dX8_whole_17) (fun σ7 x8 H locs hS h => ?_)
      refine lv_bipush (v := (59 : Int32)) hx hb dX8_whole_20 (by decide) ?_
      obtain ⟨x10, hp11, h⟩ := bnd_el h
      have K11 : ∀ (H : Heap) (locs : List Loc) (ls : Array Slot), St D A ad1 (sS τ1) σ7 s.heap H locs → lv_has ls 4 [(0, .ref (ad1 u0)), (1, .ref (ad1 u1)), (2, .ref (ad1 v2))] → W p l e (rmA 781 18648 τ) s m args below meth c H locs cl sl (GQ below (QR D A ad τ vN r) args s A) (F0 m 30 ls [.int x10, .ref (ad1 u0)]) := by
        intro H locs ls hS hl
        refine a_call (av := [.ref (ad1 u0), .int x10]) (rest := []) Z hex hS B G (en_V (rest := []) Z hS hu0 rfl v_X8_30 rfl rfl dX8_whole_30) q628 ⟨Nat.le_of_ble_eq_true rfl, Nat.le_of_ble_eq_true rfl⟩ hl.1 (Nat.le_of_ble_eq_true rfl) dX8_whole_30 h (fun z hz => w_X8_take B.2.2.2.2.1 B.2.2.2.2.2 hu0 hz) (fun σ12 τ12 x13 ad12 H locs cl sl g12 hS B h => ?_)
        have G := G.trans g12
        have ea14 := g12.ad hu0
        replace hu0 := g12.sh hu0
        have ea15 := g12.ad hu1
        replace hu1 := g12.sh hu1
        have ea16 := g12.ad hv2
        replace hv2 := g12.sh hv2
        replace hl : lv_has ls 4 [(0, .ref (ad12 u0)), (1, .ref (ad12 u1)), (2, .ref (ad12 v2))] := by rw [ea14, ea15, ea16]; exact hl
        refine lv_istore_n (lv' := [(3, .int x13), (0, .ref (ad12 u0)), (1, .ref (ad12 u1)), (2, .ref (ad12 v2))]) hx hb dX8_whole_33 rfl hl (by decide) rfl (fun ls hl => ?_)
        refine lv_aload_n hx hb dX8_whole_34 rfl (lv_at hl 3 rfl) ?_
        refine lv_aload_n hx hb dX8_whole_35 rfl (lv_at hl 1 rfl) ?_
        refine a_call (av := [.ref (ad12 u0)]) (rest := [.ref (ad12 v2)]) Z hex hS B G (en_V (rest := [.ref (ad12 v2)]) Z hS hu0 rfl v_X8_38 rfl rfl dX8_whole_36) q535 ⟨Nat.le_of_ble_eq_true rfl, Nat.le_of_ble_eq_true rfl⟩ hl.1 (Nat.le_of_ble_eq_true rfl) dX8_whole_36 h (fun z hz => w_X8_clause B.2.2.2.2.1 B.2.2.2.2.2 hu0 hz) (fun σ17 τ17 j18 ad17 H locs cl sl g17 hS B h => ?_)
        have G := G.trans g17
        obtain ⟨hj18, h⟩ := gd_el h
        replace hj18 := isSh_1 hj18
        have ea19 := g17.ad hu0
        replace hu0 := g17.sh hu0
        have ea20 := g17.ad hu1
        replace hu1 := g17.sh hu1
        have ea21 := g17.ad hv2
        replace hv2 := g17.sh hv2
        replace hl : lv_has ls 4 [(3, .int x13), (0, .ref (ad17 u0)), (1, .ref (ad17 u1)), (2, .ref (ad17 v2))] := by rw [ea19, ea20, ea21]; exact hl
        refine W_stk (st' := [.ref (ad17 j18), .ref (ad17 v2)]) (by first | (rw [ea21]; done) | (rw [ea21]; rfl)) ?_
        refine h_putR (v := (some j18)) Z hS cls_13 hv2 (by decide) rfl rfl rfl rfl (fun t ht => by cases ht; rw [hj18]; decide) fl_X8_42_13 dX8_whole_39 h (fun σ22 H locs hS h => ?_)
        refine lv_aload_n hx hb dX8_whole_42 rfl (lv_at hl 3 rfl) ?_
        refine h_getN (sh := (23, 0)) Z hS cls_13 hv2 (by decide) rfl rfl fl_X8_42_13 dX8_whole_43 h (fun j23 hj23 h => ?_)
        refine lv_astore_n (lv' := [(2, .ref (ad17 j23)), (3, .int x13), (0, .ref (ad17 u0)), (1, .ref (ad17 u1))]) hx hb dX8_whole_46 rfl hl (by decide) rfl (fun ls hl => ?_)
        refine lv_goto (tgt := 7) hx hb dX8_whole_47 (by decide) ?_
        exact ih _ _ _ _ _ _ _ _ _ G hu0 hu1 hj23 hS B (lv_sub hl [2, 3, 0] rfl) h
      clear h
      have h := hp11
      clear hp11
      refine lv_icmp_ne (tgt := 29) hx hb dX8_whole_22 (by decide) (fun c9 => ?_) (fun c9 => ?_)
      · have h := if_f h c9
        refine lv_iconst (v := (0 : Int32)) hx hb dX8_whole_29 (by decide) ?_
        cases h
        exact K11 _ _ _ hS (lv_sub hl [0, 1, 2] rfl)
      · have h := if_t h c9
        refine lv_iconst (v := (1 : Int32)) hx hb dX8_whole_25 (by decide) ?_
        refine lv_goto (tgt := 30) hx hb dX8_whole_26 (by decide) ?_
        cases h
        exact K11 _ _ _ hS (lv_sub hl [0, 1, 2] rfl)
set_option maxRecDepth 100000 in
set_option maxHeartbeats 4000000 in
theorem w_X8_whole {i0 : Nat} (hc0 : sC τ ≤ LCl) (hs0 : sL τ ≤ LSl) (hi0 : sS τ i0 = (15, 0)) {r : (Rs Nat)} (h : f_X8_whole σ τ i0 = some r) : Mg l yX8_whole (ws_ yX8_whole cX8_whole 4 (some (.object "ClogHouse$Clause"))) (rmA 781 18648 τ) (va_Pc [.ref (ad i0)] (PreG D (Ew D A) A ad (sS τ) σ)) (QR D A ad τ vN r) A := by
  refine a_met hc0 hs0 (by decide) (Nat.le_of_ble_eq_true rfl) (fun p e s m args below meth c ls Z hnm hex hS B G hl => ?_)
  have hx := Z.1
  have hb := Z.2.1
  have hown := Z.2.2.2.2.2.1
  have hts := Z.2.2.2.2.2.2.1
  refine (?_ : ∀ cl sl, Bd (sC τ) (sL τ) (rmA 781 18648 τ) τ cl sl → W p l e (rmA 781 18648 τ) s m args below meth c s.heap [] cl sl (GQ below (QR D A ad τ vN r) args s A) (F0 m 0 ls [])) 0 0 B
  clear B
  intro cl sl B
  unfold f_X8_whole at h
  refine lv_aload_n hx hb dX8_whole_0 rfl (lv_at hl 0 rfl) ?_
  refine a_call (av := [.ref (ad i0)]) (rest := []) Z hex hS B G (en_V (rest := []) Z hS hi0 rfl v_X8_38 rfl rfl dX8_whole_1) q535 ⟨Nat.le_of_ble_eq_true rfl, Nat.le_of_ble_eq_true rfl⟩ hl.1 (Nat.le_of_ble_eq_true rfl) dX8_whole_1 h (fun z hz => w_X8_clause B.2.2.2.2.1 B.2.2.2.2.2 hi0 hz) (fun σ1 τ1 j2 ad1 H locs cl sl g1 hS B h => ?_)
  have G := G.trans g1
  obtain ⟨hj2, h⟩ := gd_el h
  replace hj2 := isSh_1 hj2
  have ea3 := g1.ad hi0
  replace hi0 := g1.sh hi0
  replace hl : lv_has ls 4 [(0, .ref (ad1 i0))] := by rw [ea3]; exact hl
  refine lv_astore_n (lv' := [(1, .ref (ad1 j2)), (0, .ref (ad1 i0))]) hx hb dX8_whole_4 rfl hl (by decide) rfl (fun ls hl => ?_)
  refine lv_aload_n hx hb dX8_whole_5 rfl (lv_at hl 0 rfl) ?_
  refine lv_astore_n (lv' := [(2, .ref (ad1 j2)), (1, .ref (ad1 j2)), (0, .ref (ad1 i0))]) hx hb dX8_whole_6 rfl hl (by decide) rfl (fun ls hl => ?_)
  refine w_X8_whole_L7 Z hex (fun σ24 τ24 ad24 cl sl H locs ls G hj2 hS B hl h => ?_) FU _ _ _ _ _ _ _ _ _ G hi0 hj2 hj2 hS B (lv_sub hl [2, 1, 0] rfl) h
  refine lv_aload_n hx hb dX8_whole_50 rfl (lv_at hl 0 rfl) ?_
  exact a_aret Z hS B G dX8_whole_51 h
end
theorem dX2_init_0 : decode cX2_init 0 = .ok (.aload_n 0, 1) := by decide +kernel
theorem dX2_init_1 : decode cX2_init 1 = .ok (.invokespecial 3, 3) := by decide +kernel
theorem dX2_init_4 : decode cX2_init 4 = .ok (.aload_n 0, 1) := by decide +kernel
theorem dX2_init_5 : decode cX2_init 5 = .ok (.bipush 8, 2) := by decide +kernel
theorem dX2_init_7 : decode cX2_init 7 = .ok (.newarray .int, 2) := by decide +kernel
theorem dX2_init_9 : decode cX2_init 9 = .ok (.putfield 9, 3) := by decide +kernel
theorem dX2_init_12 : decode cX2_init 12 = .ok (.aload_n 0, 1) := by decide +kernel
theorem dX2_init_13 : decode cX2_init 13 = .ok (.bipush 8, 2) := by decide +kernel
theorem dX2_init_15 : decode cX2_init 15 = .ok (.newarray .int, 2) := by decide +kernel
theorem dX2_init_17 : decode cX2_init 17 = .ok (.putfield 15, 3) := by decide +kernel
theorem dX2_init_20 : decode cX2_init 20 = .ok (.aload_n 0, 1) := by decide +kernel
theorem dX2_init_21 : decode cX2_init 21 = .ok (.bipush 8, 2) := by decide +kernel
theorem dX2_init_23 : decode cX2_init 23 = .ok (.newarray .int, 2) := by decide +kernel
theorem dX2_init_25 : decode cX2_init 25 = .ok (.putfield 18, 3) := by decide +kernel
theorem dX2_init_28 : decode cX2_init 28 = .ok (.return_, 1) := by decide +kernel
section
variable {p : Program} {l : Launch} {e : Env} {s : State} {m : MethodId} {args : Array Value} {below : List Frame} {meth : Method} {c : Code} {D : gD} {A : Nat → Prop} {ad : Nat → Nat} {τ : Shp} {σ : Mem}
set_option maxRecDepth 100000 in
set_option maxHeartbeats 4000000 in
theorem w_X2_init {i0 : Nat} (hc0 : sC τ ≤ LCl) (hs0 : sL τ ≤ LSl) (hi0 : sS τ i0 = (11, 1)) {r : (Rs Unit)} (h : f_X2_init σ τ i0 = some r) : Mg l yX2_init (ws_ yX2_init cX2_init 1 none) (rmA 1 12 τ) (va_Pc [.ref (ad i0)] (PreG D (Ew D A) A ad (sS τ) σ)) (QR D A ad τ vU r) A := by
  refine a_met hc0 hs0 (by decide) (Nat.le_of_ble_eq_true rfl) (fun p e s m args below meth c ls Z hnm hex hS B G hl => ?_)
  have hx := Z.1
  have hb := Z.2.1
  have hown := Z.2.2.2.2.2.1
  have hts := Z.2.2.2.2.2.2.1
  refine (?_ : ∀ cl sl, Bd (sC τ) (sL τ) (rmA 1 12 τ) τ cl sl → W p l e (rmA 1 12 τ) s m args below meth c s.heap [] cl sl (GQ below (QR D A ad τ vU r) args s A) (F0 m 0 ls [])) 0 0 B
  clear B
  intro cl sl B
  unfold f_X2_init at h
  refine lv_aload_n hx hb dX2_init_0 rfl (lv_at hl 0 rfl) ?_
  refine h_oinit Z q118 q111 q112 hl.1 (Nat.le_of_ble_eq_true rfl) (Nat.le_of_ble_eq_true rfl) dX2_init_1 ?_
  refine lv_aload_n hx hb dX2_init_4 rfl (lv_at hl 0 rfl) ?_
  refine lv_bipush (v := (8 : Int32)) hx hb dX2_init_5 (by decide) ?_
  refine a_newaI (j := (i0 + 1)) Z hS B q134 (by decide) (by decide) (by decide) dX2_init_7 h (fun ad1 σ1 τ1 H g1 hn2 hS B h => ?_)
  have G := G.trans g1
  generalize cl + 1 = cl at B ⊢
  generalize sl + 8 = sl at B ⊢
  have ea3 := g1.ad hi0
  obtain ⟨hi0, h⟩ := gd_el h
  replace hi0 := isSh_1 hi0
  replace hl : lv_has ls 1 [(0, .ref (ad1 i0))] := by rw [ea3]; exact hl
  refine W_stk (st' := [.ref (ad1 (i0 + 1)), .ref (ad1 i0)]) (by first | (rw [ea3]; done) | (rw [ea3]; rfl)) ?_
  refine h_rputFR (k := 0) Z hnm hS cls_1 hi0 (by decide) rfl rfl rfl (by first | exact Or.inl ⟨_, rfl⟩ | exact Or.inr ⟨_, rfl⟩) (by rw [hn2]; decide) q119 dX2_init_9 h (fun σ4 H locs hS h => ?_)
  refine lv_aload_n hx hb dX2_init_12 rfl (lv_at hl 0 rfl) ?_
  refine lv_bipush (v := (8 : Int32)) hx hb dX2_init_13 (by decide) ?_
  refine a_newaI (j := (i0 + 2)) Z hS B q134 (by decide) (by decide) (by decide) dX2_init_15 h (fun ad5 σ5 τ5 H g5 hn6 hS B h => ?_)
  have G := G.trans g5
  generalize cl + 1 = cl at B ⊢
  generalize sl + 8 = sl at B ⊢
  have ea7 := g5.ad hi0
  obtain ⟨hi0, h⟩ := gd_el h
  replace hi0 := isSh_1 hi0
  replace hl : lv_has ls 1 [(0, .ref (ad5 i0))] := by rw [ea7]; exact hl
  refine W_stk (st' := [.ref (ad5 (i0 + 2)), .ref (ad5 i0)]) (by first | (rw [ea7]; done) | (rw [ea7]; rfl)) ?_
  refine h_rputFR (k := 1) Z hnm hS cls_1 hi0 (by decide) rfl rfl rfl (by first | exact Or.inl ⟨_, rfl⟩ | exact Or.inr ⟨_, rfl⟩) (by rw [hn6]; decide) q121 dX2_init_17 h (fun σ8 H locs hS h => ?_)
  refine lv_aload_n hx hb dX2_init_20 rfl (lv_at hl 0 rfl) ?_
  refine lv_bipush (v := (8 : Int32)) hx hb dX2_init_21 (by decide) ?_
  refine a_newaI (j := (i0 + 3)) Z hS B q134 (by decide) (by decide) (by decide) dX2_init_23 h (fun ad9 σ9 τ9 H g9 hn10 hS B h => ?_)
  have G := G.trans g9
  generalize cl + 1 = cl at B ⊢
  generalize sl + 8 = sl at B ⊢
  have ea11 := g9.ad hi0
  obtain ⟨hi0, h⟩ := gd_el h
  replace hi0 := isSh_1 hi0
  replace hl : lv_has ls 1 [(0, .ref (ad9 i0))] := by rw [ea11]; exact hl
  refine W_stk (st' := [.ref (ad9 (i0 + 3)), .ref (ad9 i0)]) (by first | (rw [ea11]; done) | (rw [ea11]; rfl)) ?_
  refine h_rputFR (k := 2) Z hnm hS cls_1 hi0 (by decide) rfl rfl rfl (by first | exact Or.inl ⟨_, rfl⟩ | exact Or.inr ⟨_, rfl⟩) (by rw [hn10]; decide) q124 dX2_init_25 h (fun σ12 H locs hS h => ?_)
  refine a_cook hS B cls_1 nk_1 hi0 h (fun τ13 g13 _ hS B h => ?_)
  exact a_vret Z hS B (G.trans g13) dX2_init_28 h
end
theorem dX4_init_0 : decode cX4_init 0 = .ok (.aload_n 0, 1) := by decide +kernel
theorem dX4_init_1 : decode cX4_init 1 = .ok (.invokespecial 3, 3) := by decide +kernel
theorem dX4_init_4 : decode cX4_init 4 = .ok (.aload_n 0, 1) := by decide +kernel
theorem dX4_init_5 : decode cX4_init 5 = .ok (.bipush 8, 2) := by decide +kernel
theorem dX4_init_7 : decode cX4_init 7 = .ok (.newarray .int, 2) := by decide +kernel
theorem dX4_init_9 : decode cX4_init 9 = .ok (.putfield 9, 3) := by decide +kernel
theorem dX4_init_12 : decode cX4_init 12 = .ok (.return_, 1) := by decide +kernel
section
variable {p : Program} {l : Launch} {e : Env} {s : State} {m : MethodId} {args : Array Value} {below : List Frame} {meth : Method} {c : Code} {D : gD} {A : Nat → Prop} {ad : Nat → Nat} {τ : Shp} {σ : Mem}
set_option maxRecDepth 100000 in
set_option maxHeartbeats 4000000 in
theorem w_X4_init_4 {i0 : Nat} (hc0 : sC τ ≤ LCl) (hs0 : sL τ ≤ LSl) (hi0 : sS τ i0 = (14, 1)) {r : (Rs Unit)} (h : f_X4_init_4 σ τ i0 = some r) : Mg l yX4_init (ws_ yX4_init cX4_init 1 none) (rmA 1 12 τ) (va_Pc [.ref (ad i0)] (PreG D (Ew D A) A ad (sS τ) σ)) (QR D A ad τ vU r) A := by
  refine a_met hc0 hs0 (by decide) (Nat.le_of_ble_eq_true rfl) (fun p e s m args below meth c ls Z hnm hex hS B G hl => ?_)
  have hx := Z.1
  have hb := Z.2.1
  have hown := Z.2.2.2.2.2.1
  have hts := Z.2.2.2.2.2.2.1
  refine (?_ : ∀ cl sl, Bd (sC τ) (sL τ) (rmA 1 12 τ) τ cl sl → W p l e (rmA 1 12 τ) s m args below meth c s.heap [] cl sl (GQ below (QR D A ad τ vU r) args s A) (F0 m 0 ls [])) 0 0 B
  clear B
  intro cl sl B
  unfold f_X4_init_4 at h
  refine lv_aload_n hx hb dX4_init_0 rfl (lv_at hl 0 rfl) ?_
  refine h_oinit Z q156 q111 q112 hl.1 (Nat.le_of_ble_eq_true rfl) (Nat.le_of_ble_eq_true rfl) dX4_init_1 ?_
  refine lv_aload_n hx hb dX4_init_4 rfl (lv_at hl 0 rfl) ?_
  refine lv_bipush (v := (8 : Int32)) hx hb dX4_init_5 (by decide) ?_
  refine a_newaI (j := (i0 + 1)) Z hS B q134 (by decide) (by decide) (by decide) dX4_init_7 h (fun ad1 σ1 τ1 H g1 hn2 hS B h => ?_)
  have G := G.trans g1
  generalize cl + 1 = cl at B ⊢
  generalize sl + 8 = sl at B ⊢
  have ea3 := g1.ad hi0
  obtain ⟨hi0, h⟩ := gd_el h
  replace hi0 := isSh_1 hi0
  replace hl : lv_has ls 1 [(0, .ref (ad1 i0))] := by rw [ea3]; exact hl
  refine W_stk (st' := [.ref (ad1 (i0 + 1)), .ref (ad1 i0)]) (by first | (rw [ea3]; done) | (rw [ea3]; rfl)) ?_
  refine h_rputFR (k := 0) Z hnm hS cls_4 hi0 (by decide) rfl rfl rfl (by first | exact Or.inl ⟨_, rfl⟩ | exact Or.inr ⟨_, rfl⟩) (by rw [hn2]; decide) q157 dX4_init_9 h (fun σ4 H locs hS h => ?_)
  exact a_vret Z hS B G dX4_init_12 h
end
theorem dX7_init_0 : decode cX7_init 0 = .ok (.aload_n 0, 1) := by decide +kernel
theorem dX7_init_1 : decode cX7_init 1 = .ok (.invokespecial 3, 3) := by decide +kernel
theorem dX7_init_4 : decode cX7_init 4 = .ok (.aload_n 0, 1) := by decide +kernel
theorem dX7_init_5 : decode cX7_init 5 = .ok (.bipush 8, 2) := by decide +kernel
theorem dX7_init_7 : decode cX7_init 7 = .ok (.newarray .int, 2) := by decide +kernel
theorem dX7_init_9 : decode cX7_init 9 = .ok (.putfield 9, 3) := by decide +kernel
theorem dX7_init_12 : decode cX7_init 12 = .ok (.aload_n 0, 1) := by decide +kernel
theorem dX7_init_13 : decode cX7_init 13 = .ok (.iload_n 1, 1) := by decide +kernel
theorem dX7_init_14 : decode cX7_init 14 = .ok (.putfield 15, 3) := by decide +kernel
theorem dX7_init_17 : decode cX7_init 17 = .ok (.aload_n 0, 1) := by decide +kernel
theorem dX7_init_18 : decode cX7_init 18 = .ok (.iload_n 1, 1) := by decide +kernel
theorem dX7_init_19 : decode cX7_init 19 = .ok (.putfield 19, 3) := by decide +kernel
theorem dX7_init_22 : decode cX7_init 22 = .ok (.aload_n 0, 1) := by decide +kernel
theorem dX7_init_23 : decode cX7_init 23 = .ok (.iload_n 2, 1) := by decide +kernel
theorem dX7_init_24 : decode cX7_init 24 = .ok (.putfield 22, 3) := by decide +kernel
theorem dX7_init_27 : decode cX7_init 27 = .ok (.return_, 1) := by decide +kernel
section
variable {p : Program} {l : Launch} {e : Env} {s : State} {m : MethodId} {args : Array Value} {below : List Frame} {meth : Method} {c : Code} {D : gD} {A : Nat → Prop} {ad : Nat → Nat} {τ : Shp} {σ : Mem}
set_option maxRecDepth 100000 in
set_option maxHeartbeats 4000000 in
theorem w_X7_init {i0 : Nat} {a1 : Int32} {a2 : Int32} (hc0 : sC τ ≤ LCl) (hs0 : sL τ ≤ LSl) (hi0 : sS τ i0 = (14, 1)) {r : (Rs Unit)} (h : f_X7_init σ τ i0 a1 a2 = some r) : Mg l yX7_init (ws_ yX7_init cX7_init 3 none) (rmA 2 32 τ) (va_Pc [.ref (ad i0), .int a1, .int a2] (PreG D (Ew D A) A ad (sS τ) σ)) (QR D A ad τ vU r) A := by
  refine a_met hc0 hs0 (by decide) (Nat.le_of_ble_eq_true rfl) (fun p e s m args below meth c ls Z hnm hex hS B G hl => ?_)
  have hx := Z.1
  have hb := Z.2.1
  have hown := Z.2.2.2.2.2.1
  have hts := Z.2.2.2.2.2.2.1
  refine (?_ : ∀ cl sl, Bd (sC τ) (sL τ) (rmA 2 32 τ) τ cl sl → W p l e (rmA 2 32 τ) s m args below meth c s.heap [] cl sl (GQ below (QR D A ad τ vU r) args s A) (F0 m 0 ls [])) 0 0 B
  clear B
  intro cl sl B
  unfold f_X7_init at h
  refine lv_aload_n hx hb dX7_init_0 rfl (lv_at hl 0 rfl) ?_
  refine a_call (av := [.ref (ad i0)]) (rest := []) Z hex hS B G (en_I (rest := []) Z vc_X7_3 rfl rfl dX7_init_1) q155 ⟨Nat.le_of_ble_eq_true rfl, Nat.le_of_ble_eq_true rfl⟩ hl.1 (Nat.le_of_ble_eq_true rfl) dX7_init_1 h (fun z hz => w_X4_init_4 B.2.2.2.2.1 B.2.2.2.2.2 hi0 hz) (fun σ1 τ1 _ ad1 H locs cl sl g1 hS B h => ?_)
  have G := G.trans g1
  have ea2 := g1.ad hi0
  obtain ⟨hi0, h⟩ := gd_el h
  replace hi0 := isSh_1 hi0
  replace hl : lv_has ls 3 [(0, .ref (ad1 i0)), (1, .int a1), (2, .int a2)] := by rw [ea2]; exact hl
  refine lv_aload_n hx hb dX7_init_4 rfl (lv_at hl 0 rfl) ?_
  refine lv_bipush (v := (8 : Int32)) hx hb dX7_init_5 (by decide) ?_
  refine a_newaI (j := (i0 + 2)) Z hS B q134 (by decide) (by decide) (by decide) dX7_init_7 h (fun ad3 σ3 τ3 H g3 hn4 hS B h => ?_)
  have G := G.trans g3
  generalize cl + 1 = cl at B ⊢
  generalize sl + 8 = sl at B ⊢
  have ea5 := g3.ad hi0
  obtain ⟨hi0, h⟩ := gd_el h
  replace hi0 := isSh_1 hi0
  replace hl : lv_has ls 3 [(0, .ref (ad3 i0)), (1, .int a1), (2, .int a2)] := by rw [ea5]; exact hl
  refine W_stk (st' := [.ref (ad3 (i0 + 2)), .ref (ad3 i0)]) (by first | (rw [ea5]; done) | (rw [ea5]; rfl)) ?_
  refine h_rputFR (k := 3) Z hnm hS cls_4 hi0 (by decide) rfl rfl rfl (by first | exact Or.inl ⟨_, rfl⟩ | exact Or.inr ⟨_, rfl⟩) (by rw [hn4]; decide) q380 dX7_init_9 h (fun σ6 H locs hS h => ?_)
  refine lv_aload_n hx hb dX7_init_12 rfl (lv_at hl 0 rfl) ?_
  refine lv_iload_n hx hb dX7_init_13 rfl (lv_at hl 1 rfl) ?_
  refine h_rputFI (k := 1) Z hnm hS cls_4 hi0 (by decide) rfl rfl rfl rfl q377 dX7_init_14 h (fun σ7 H locs hS h => ?_)
  refine lv_aload_n hx hb dX7_init_17 rfl (lv_at hl 0 rfl) ?_
  refine lv_iload_n hx hb dX7_init_18 rfl (lv_at hl 1 rfl) ?_
  refine h_rputI (k := 4) Z hS cls_4 hi0 (by decide) rfl rfl rfl fl_X7_19_4 dX7_init_19 h (fun σ8 H locs hS h => ?_)
  refine lv_aload_n hx hb dX7_init_22 rfl (lv_at hl 0 rfl) ?_
  refine lv_iload_n hx hb dX7_init_23 rfl (lv_at hl 2 rfl) ?_
  refine h_rputFI (k := 2) Z hnm hS cls_4 hi0 (by decide) rfl rfl rfl rfl q378 dX7_init_24 h (fun σ9 H locs hS h => ?_)
  refine a_cook hS B cls_4 nk_4 hi0 h (fun τ10 g10 _ hS B h => ?_)
  exact a_vret Z hS B (G.trans g10) dX7_init_27 h
end
section
variable {p : Program} {l : Launch} {e : Env} {s : State} {m : MethodId} {args : Array Value} {below : List Frame} {meth : Method} {c : Code} {D : gD} {A : Nat → Prop} {ad : Nat → Nat} {τ : Shp} {σ : Mem}
set_option maxRecDepth 100000 in
set_option maxHeartbeats 4000000 in
theorem w_X4_init_3 {i0 : Nat} (hc0 : sC τ ≤ LCl) (hs0 : sL τ ≤ LSl) (hi0 : sS τ i0 = (13, 1)) {r : (Rs Unit)} (h : f_X4_init_3 σ τ i0 = some r) : Mg l yX4_init (ws_ yX4_init cX4_init 1 none) (rmA 1 12 τ) (va_Pc [.ref (ad i0)] (PreG D (Ew D A) A ad (sS τ) σ)) (QR D A ad τ vU r) A := by
  refine a_met hc0 hs0 (by decide) (Nat.le_of_ble_eq_true rfl) (fun p e s m args below meth c ls Z hnm hex hS B G hl => ?_)
  have hx := Z.1
  have hb := Z.2.1
  have hown := Z.2.2.2.2.2.1
  have hts := Z.2.2.2.2.2.2.1
  refine (?_ : ∀ cl sl, Bd (sC τ) (sL τ) (rmA 1 12 τ) τ cl sl → W p l e (rmA 1 12 τ) s m args below meth c s.heap [] cl sl (GQ below (QR D A ad τ vU r) args s A) (F0 m 0 ls [])) 0 0 B
  clear B
  intro cl sl B
  unfold f_X4_init_3 at h
  refine lv_aload_n hx hb dX4_init_0 rfl (lv_at hl 0 rfl) ?_
  refine h_oinit Z q156 q111 q112 hl.1 (Nat.le_of_ble_eq_true rfl) (Nat.le_of_ble_eq_true rfl) dX4_init_1 ?_
  refine lv_aload_n hx hb dX4_init_4 rfl (lv_at hl 0 rfl) ?_
  refine lv_bipush (v := (8 : Int32)) hx hb dX4_init_5 (by decide) ?_
  refine a_newaI (j := (i0 + 1)) Z hS B q134 (by decide) (by decide) (by decide) dX4_init_7 h (fun ad1 σ1 τ1 H g1 hn2 hS B h => ?_)
  have G := G.trans g1
  generalize cl + 1 = cl at B ⊢
  generalize sl + 8 = sl at B ⊢
  have ea3 := g1.ad hi0
  obtain ⟨hi0, h⟩ := gd_el h
  replace hi0 := isSh_1 hi0
  replace hl : lv_has ls 1 [(0, .ref (ad1 i0))] := by rw [ea3]; exact hl
  refine W_stk (st' := [.ref (ad1 (i0 + 1)), .ref (ad1 i0)]) (by first | (rw [ea3]; done) | (rw [ea3]; rfl)) ?_
  refine h_rputFR (k := 0) Z hnm hS cls_3 hi0 (by decide) rfl rfl rfl (by first | exact Or.inl ⟨_, rfl⟩ | exact Or.inr ⟨_, rfl⟩) (by rw [hn2]; decide) q157 dX4_init_9 h (fun σ4 H locs hS h => ?_)
  exact a_vret Z hS B G dX4_init_12 h
end
theorem dX5_init_0 : decode cX5_init 0 = .ok (.aload_n 0, 1) := by decide +kernel
theorem dX5_init_1 : decode cX5_init 1 = .ok (.invokespecial 1, 3) := by decide +kernel
theorem dX5_init_4 : decode cX5_init 4 = .ok (.return_, 1) := by decide +kernel
section
variable {p : Program} {l : Launch} {e : Env} {s : State} {m : MethodId} {args : Array Value} {below : List Frame} {meth : Method} {c : Code} {D : gD} {A : Nat → Prop} {ad : Nat → Nat} {τ : Shp} {σ : Mem}
set_option maxRecDepth 100000 in
set_option maxHeartbeats 4000000 in
theorem w_X5_init {i0 : Nat} (hc0 : sC τ ≤ LCl) (hs0 : sL τ ≤ LSl) (hi0 : sS τ i0 = (13, 1)) {r : (Rs Unit)} (h : f_X5_init σ τ i0 = some r) : Mg l yX5_init (ws_ yX5_init cX5_init 1 none) (rmA 2 32 τ) (va_Pc [.ref (ad i0)] (PreG D (Ew D A) A ad (sS τ) σ)) (QR D A ad τ vU r) A := by
  refine a_met hc0 hs0 (by decide) (Nat.le_of_ble_eq_true rfl) (fun p e s m args below meth c ls Z hnm hex hS B G hl => ?_)
  have hx := Z.1
  have hb := Z.2.1
  have hown := Z.2.2.2.2.2.1
  have hts := Z.2.2.2.2.2.2.1
  refine (?_ : ∀ cl sl, Bd (sC τ) (sL τ) (rmA 2 32 τ) τ cl sl → W p l e (rmA 2 32 τ) s m args below meth c s.heap [] cl sl (GQ below (QR D A ad τ vU r) args s A) (F0 m 0 ls [])) 0 0 B
  clear B
  intro cl sl B
  unfold f_X5_init at h
  refine lv_aload_n hx hb dX5_init_0 rfl (lv_at hl 0 rfl) ?_
  refine a_call (av := [.ref (ad i0)]) (rest := []) Z hex hS B G (en_I (rest := []) Z vc_X5_1 rfl rfl dX5_init_1) q155 ⟨Nat.le_of_ble_eq_true rfl, Nat.le_of_ble_eq_true rfl⟩ hl.1 (Nat.le_of_ble_eq_true rfl) dX5_init_1 h (fun z hz => w_X4_init_3 B.2.2.2.2.1 B.2.2.2.2.2 hi0 hz) (fun σ1 τ1 _ ad1 H locs cl sl g1 hS B h => ?_)
  have G := G.trans g1
  have ea2 := g1.ad hi0
  obtain ⟨hi0, h⟩ := gd_el h
  replace hi0 := isSh_1 hi0
  replace hl : lv_has ls 1 [(0, .ref (ad1 i0))] := by rw [ea2]; exact hl
  refine a_cook hS B cls_3 nk_3 hi0 h (fun τ3 g3 _ hS B h => ?_)
  exact a_vret Z hS B (G.trans g3) dX5_init_4 h
end
theorem dX3_init_0 : decode cX3_init 0 = .ok (.aload_n 0, 1) := by decide +kernel
theorem dX3_init_1 : decode cX3_init 1 = .ok (.invokespecial 3, 3) := by decide +kernel
theorem dX3_init_4 : decode cX3_init 4 = .ok (.aload_n 0, 1) := by decide +kernel
theorem dX3_init_5 : decode cX3_init 5 = .ok (.bipush 10, 2) := by decide +kernel
theorem dX3_init_7 : decode cX3_init 7 = .ok (.anewarray 9, 3) := by decide +kernel
theorem dX3_init_10 : decode cX3_init 10 = .ok (.putfield 11, 3) := by decide +kernel
theorem dX3_init_13 : decode cX3_init 13 = .ok (.aload_n 0, 1) := by decide +kernel
theorem dX3_init_14 : decode cX3_init 14 = .ok (.new 17, 3) := by decide +kernel
theorem dX3_init_17 : decode cX3_init 17 = .ok (.dup, 1) := by decide +kernel
theorem dX3_init_18 : decode cX3_init 18 = .ok (.invokespecial 19, 3) := by decide +kernel
theorem dX3_init_21 : decode cX3_init 21 = .ok (.putfield 20, 3) := by decide +kernel
theorem dX3_init_24 : decode cX3_init 24 = .ok (.aload_n 0, 1) := by decide +kernel
theorem dX3_init_25 : decode cX3_init 25 = .ok (.iconst 3, 1) := by decide +kernel
theorem dX3_init_26 : decode cX3_init 26 = .ok (.newarray .int, 2) := by decide +kernel
theorem dX3_init_28 : decode cX3_init 28 = .ok (.dup, 1) := by decide +kernel
theorem dX3_init_29 : decode cX3_init 29 = .ok (.iconst 0, 1) := by decide +kernel
theorem dX3_init_30 : decode cX3_init 30 = .ok (.bipush 100, 2) := by decide +kernel
theorem dX3_init_32 : decode cX3_init 32 = .ok (.iastore, 1) := by decide +kernel
theorem dX3_init_33 : decode cX3_init 33 = .ok (.dup, 1) := by decide +kernel
theorem dX3_init_34 : decode cX3_init 34 = .ok (.iconst 1, 1) := by decide +kernel
theorem dX3_init_35 : decode cX3_init 35 = .ok (.sipush 500, 3) := by decide +kernel
theorem dX3_init_38 : decode cX3_init 38 = .ok (.iastore, 1) := by decide +kernel
theorem dX3_init_39 : decode cX3_init 39 = .ok (.dup, 1) := by decide +kernel
theorem dX3_init_40 : decode cX3_init 40 = .ok (.iconst 2, 1) := by decide +kernel
theorem dX3_init_41 : decode cX3_init 41 = .ok (.bipush 50, 2) := by decide +kernel
theorem dX3_init_43 : decode cX3_init 43 = .ok (.iastore, 1) := by decide +kernel
theorem dX3_init_44 : decode cX3_init 44 = .ok (.putfield 24, 3) := by decide +kernel
theorem dX3_init_47 : decode cX3_init 47 = .ok (.aload_n 0, 1) := by decide +kernel
theorem dX3_init_48 : decode cX3_init 48 = .ok (.bipush 8, 2) := by decide +kernel
theorem dX3_init_50 : decode cX3_init 50 = .ok (.newarray .int, 2) := by decide +kernel
theorem dX3_init_52 : decode cX3_init 52 = .ok (.putfield 28, 3) := by decide +kernel
theorem dX3_init_55 : decode cX3_init 55 = .ok (.aload_n 0, 1) := by decide +kernel
theorem dX3_init_56 : decode cX3_init 56 = .ok (.bipush 10, 2) := by decide +kernel
theorem dX3_init_58 : decode cX3_init 58 = .ok (.newarray .int, 2) := by decide +kernel
theorem dX3_init_60 : decode cX3_init 60 = .ok (.putfield 31, 3) := by decide +kernel
theorem dX3_init_63 : decode cX3_init 63 = .ok (.aload_n 0, 1) := by decide +kernel
theorem dX3_init_64 : decode cX3_init 64 = .ok (.iconst (-1), 1) := by decide +kernel
theorem dX3_init_65 : decode cX3_init 65 = .ok (.putfield 34, 3) := by decide +kernel
theorem dX3_init_68 : decode cX3_init 68 = .ok (.return_, 1) := by decide +kernel
section
variable {p : Program} {l : Launch} {e : Env} {s : State} {m : MethodId} {args : Array Value} {below : List Frame} {meth : Method} {c : Code} {D : gD} {A : Nat → Prop} {ad : Nat → Nat} {τ : Shp} {σ : Mem}
set_option maxRecDepth 100000 in
set_option maxHeartbeats 4000000 in
theorem w_X3_init {i0 : Nat} (hc0 : sC τ ≤ LCl) (hs0 : sL τ ≤ LSl) (hi0 : sS τ i0 = (12, 1)) {r : (Rs Unit)} (h : f_X3_init σ τ i0 = some r) : Mg l yX3_init (ws_ yX3_init cX3_init 1 none) (rmA 3 52 τ) (va_Pc [.ref (ad i0)] (PreG D (Ew D A) A ad (sS τ) σ)) (QR D A ad τ vU r) A := by
  refine a_met hc0 hs0 (by decide) (Nat.le_of_ble_eq_true rfl) (fun p e s m args below meth c ls Z hnm hex hS B G hl => ?_)
  have hx := Z.1
  have hb := Z.2.1
  have hown := Z.2.2.2.2.2.1
  have hts := Z.2.2.2.2.2.2.1
  refine (?_ : ∀ cl sl, Bd (sC τ) (sL τ) (rmA 3 52 τ) τ cl sl → W p l e (rmA 3 52 τ) s m args below meth c s.heap [] cl sl (GQ below (QR D A ad τ vU r) args s A) (F0 m 0 ls [])) 0 0 B
  clear B
  intro cl sl B
  unfold f_X3_init at h
  refine lv_aload_n hx hb dX3_init_0 rfl (lv_at hl 0 rfl) ?_
  refine h_oinit Z q146 q111 q112 hl.1 (Nat.le_of_ble_eq_true rfl) (Nat.le_of_ble_eq_true rfl) dX3_init_1 ?_
  refine lv_aload_n hx hb dX3_init_4 rfl (lv_at hl 0 rfl) ?_
  refine lv_bipush (v := (10 : Int32)) hx hb dX3_init_5 (by decide) ?_
  refine a_newq (a := 6) (j := (i0 + 1)) Z hS B (by decide) (by decide) q147 (List.mem_of_getElem? (i := 74) rfl) (by decide) (by decide) (by decide) dX3_init_7 h (fun ad1 σ1 τ1 H g1 hn2 hS B h => ?_)
  have G := G.trans g1
  generalize cl + 1 = cl at B ⊢
  generalize sl + 10 = sl at B ⊢
  have ea3 := g1.ad hi0
  obtain ⟨hi0, h⟩ := gd_el h
  replace hi0 := isSh_1 hi0
  replace hl : lv_has ls 1 [(0, .ref (ad1 i0))] := by rw [ea3]; exact hl
  refine W_stk (st' := [.ref (ad1 (i0 + 1)), .ref (ad1 i0)]) (by first | (rw [ea3]; done) | (rw [ea3]; rfl)) ?_
  refine h_rputFR (k := 0) Z hnm hS cls_2 hi0 (by decide) rfl rfl rfl (by first | exact Or.inl ⟨_, rfl⟩ | exact Or.inr ⟨_, rfl⟩) (by rw [hn2]; decide) q167 dX3_init_10 h (fun σ4 H locs hS h => ?_)
  refine lv_aload_n hx hb dX3_init_13 rfl (lv_at hl 0 rfl) ?_
  refine a_newO (z := 1) (j := (i0 + 2)) Z hS B cls_3 dv_3 (fun z => by cases z) q148 q149 q80 dX3_init_14 h (fun ad5 σ5 τ5 H ga gb gc hn6 _ hS B h => ?_)
  have g5 : Gx τ1 ad1 τ5 ad5 := ⟨ga, gb, gc⟩
  have G := G.trans g5
  generalize cl + 1 = cl at B ⊢
  generalize sl + 1 = sl at B ⊢
  have ea7 := g5.ad hi0
  obtain ⟨hi0, h⟩ := gd_el h
  replace hi0 := isSh_1 hi0
  replace hl : lv_has ls 1 [(0, .ref (ad5 i0))] := by rw [ea7]; exact hl
  refine W_stk (st' := [.ref (ad5 (i0 + 2)), .ref (ad5 i0)]) (by first | (rw [ea7]; done) | (rw [ea7]; rfl)) ?_
  refine lv_dup hx hb dX3_init_17 rfl ?_
  refine a_call (av := [.ref (ad5 (i0 + 2))]) (rest := [.ref (ad5 (i0 + 2)), .ref (ad5 i0)]) Z hex hS B G (en_I (rest := [.ref (ad5 (i0 + 2)), .ref (ad5 i0)]) Z vc_X3_19 rfl rfl dX3_init_18) q152 ⟨Nat.le_of_ble_eq_true rfl, Nat.le_of_ble_eq_true rfl⟩ hl.1 (Nat.le_of_ble_eq_true rfl) dX3_init_18 h (fun z hz => w_X5_init B.2.2.2.2.1 B.2.2.2.2.2 hn6 hz) (fun σ8 τ8 _ ad8 H locs cl sl g8 hS B h => ?_)
  have G := G.trans g8
  have eb9 := g8.ad hn6
  obtain ⟨hk9, h⟩ := gd_el h
  replace hk9 := isSh_1 hk9
  have ea10 := g8.ad hi0
  obtain ⟨hi0, h⟩ := gd_el h
  replace hi0 := isSh_1 hi0
  replace hl : lv_has ls 1 [(0, .ref (ad8 i0))] := by rw [ea10]; exact hl
  refine W_stk (st' := [.ref (ad8 (i0 + 2)), .ref (ad8 i0)]) (by first | (rw [eb9, ea10]; done) | (rw [eb9, ea10]; rfl)) ?_
  refine h_rputFR (k := 1) Z hnm hS cls_2 hi0 (by decide) rfl rfl rfl (by first | exact Or.inl ⟨_, rfl⟩ | exact Or.inr ⟨_, rfl⟩) (by rw [hk9]; decide) q169 dX3_init_21 h (fun σ11 H locs hS h => ?_)
  refine lv_aload_n hx hb dX3_init_24 rfl (lv_at hl 0 rfl) ?_
  refine lv_iconst (v := (3 : Int32)) hx hb dX3_init_25 (by decide) ?_
  refine a_newaI (j := (i0 + 4)) Z hS B q134 (by decide) (by decide) (by decide) dX3_init_26 h (fun ad12 σ12 τ12 H g12 hn13 hS B h => ?_)
  have G := G.trans g12
  generalize cl + 1 = cl at B ⊢
  generalize sl + 3 = sl at B ⊢
  have ea14 := g12.ad hi0
  obtain ⟨hi0, h⟩ := gd_el h
  replace hi0 := isSh_1 hi0
  replace hl : lv_has ls 1 [(0, .ref (ad12 i0))] := by rw [ea14]; exact hl
  refine W_stk (st' := [.ref (ad12 (i0 + 4)), .ref (ad12 i0)]) (by first | (rw [ea14]; done) | (rw [ea14]; rfl)) ?_
  refine lv_dup hx hb dX3_init_28 rfl ?_
  refine lv_iconst (v := (0 : Int32)) hx hb dX3_init_29 (by decide) ?_
  refine lv_bipush (v := (100 : Int32)) hx hb dX3_init_30 (by decide) ?_
  refine h_iast Z hS hn13 dX3_init_32 h (fun σ15 H locs hS h => ?_)
  refine lv_dup hx hb dX3_init_33 rfl ?_
  refine lv_iconst (v := (1 : Int32)) hx hb dX3_init_34 (by decide) ?_
  refine lv_sipush (v := (500 : Int32)) hx hb dX3_init_35 (by decide) ?_
  refine h_iast Z hS hn13 dX3_init_38 h (fun σ16 H locs hS h => ?_)
  refine lv_dup hx hb dX3_init_39 rfl ?_
  refine lv_iconst (v := (2 : Int32)) hx hb dX3_init_40 (by decide) ?_
  refine lv_bipush (v := (50 : Int32)) hx hb dX3_init_41 (by decide) ?_
  refine h_iast Z hS hn13 dX3_init_43 h (fun σ17 H locs hS h => ?_)
  refine h_rputFR (k := 2) Z hnm hS cls_2 hi0 (by decide) rfl rfl rfl (by first | exact Or.inl ⟨_, rfl⟩ | exact Or.inr ⟨_, rfl⟩) (by rw [hn13]; decide) q171 dX3_init_44 h (fun σ18 H locs hS h => ?_)
  refine lv_aload_n hx hb dX3_init_47 rfl (lv_at hl 0 rfl) ?_
  refine lv_bipush (v := (8 : Int32)) hx hb dX3_init_48 (by decide) ?_
  refine a_newaI (j := (i0 + 5)) Z hS B q134 (by decide) (by decide) (by decide) dX3_init_50 h (fun ad19 σ19 τ19 H g19 hn20 hS B h => ?_)
  have G := G.trans g19
  generalize cl + 1 = cl at B ⊢
  generalize sl + 8 = sl at B ⊢
  have ea21 := g19.ad hi0
  obtain ⟨hi0, h⟩ := gd_el h
  replace hi0 := isSh_1 hi0
  replace hl : lv_has ls 1 [(0, .ref (ad19 i0))] := by rw [ea21]; exact hl
  refine W_stk (st' := [.ref (ad19 (i0 + 5)), .ref (ad19 i0)]) (by first | (rw [ea21]; done) | (rw [ea21]; rfl)) ?_
  refine h_rputFR (k := 3) Z hnm hS cls_2 hi0 (by decide) rfl rfl rfl (by first | exact Or.inl ⟨_, rfl⟩ | exact Or.inr ⟨_, rfl⟩) (by rw [hn20]; decide) q173 dX3_init_52 h (fun σ22 H locs hS h => ?_)
  refine lv_aload_n hx hb dX3_init_55 rfl (lv_at hl 0 rfl) ?_
  refine lv_bipush (v := (10 : Int32)) hx hb dX3_init_56 (by decide) ?_
  refine a_newaI (j := (i0 + 6)) Z hS B q134 (by decide) (by decide) (by decide) dX3_init_58 h (fun ad23 σ23 τ23 H g23 hn24 hS B h => ?_)
  have G := G.trans g23
  generalize cl + 1 = cl at B ⊢
  generalize sl + 10 = sl at B ⊢
  have ea25 := g23.ad hi0
  obtain ⟨hi0, h⟩ := gd_el h
  replace hi0 := isSh_1 hi0
  replace hl : lv_has ls 1 [(0, .ref (ad23 i0))] := by rw [ea25]; exact hl
  refine W_stk (st' := [.ref (ad23 (i0 + 6)), .ref (ad23 i0)]) (by first | (rw [ea25]; done) | (rw [ea25]; rfl)) ?_
  refine h_rputFR (k := 4) Z hnm hS cls_2 hi0 (by decide) rfl rfl rfl (by first | exact Or.inl ⟨_, rfl⟩ | exact Or.inr ⟨_, rfl⟩) (by rw [hn24]; decide) q175 dX3_init_60 h (fun σ26 H locs hS h => ?_)
  refine lv_aload_n hx hb dX3_init_63 rfl (lv_at hl 0 rfl) ?_
  refine lv_iconst (v := (-1 : Int32)) hx hb dX3_init_64 (by decide) ?_
  refine h_rputI (k := 12) Z hS cls_2 hi0 (by decide) rfl rfl rfl fl_X3_34_2 dX3_init_65 h (fun σ27 H locs hS h => ?_)
  refine a_cook hS B cls_2 nk_2 hi0 h (fun τ28 g28 _ hS B h => ?_)
  exact a_vret Z hS B (G.trans g28) dX3_init_68 h
end
theorem dX1_fault_0 : decode cX1_fault 0 = .ok (.new 252, 3) := by decide +kernel
theorem dX1_fault_3 : decode cX1_fault 3 = .ok (.dup, 1) := by decide +kernel
theorem dX1_fault_4 : decode cX1_fault 4 = .ok (.aload_n 0, 1) := by decide +kernel
theorem dX1_fault_5 : decode cX1_fault 5 = .ok (.getfield 28, 3) := by decide +kernel
theorem dX1_fault_8 : decode cX1_fault 8 = .ok (.aload_n 0, 1) := by decide +kernel
theorem dX1_fault_9 : decode cX1_fault 9 = .ok (.getfield 245, 3) := by decide +kernel
theorem dX1_fault_12 : decode cX1_fault 12 = .ok (.invokespecial 254, 3) := by decide +kernel
theorem dX1_fault_15 : decode cX1_fault 15 = .ok (.invokevirtual 257, 3) := by decide +kernel
theorem dX1_fault_18 : decode cX1_fault 18 = .ok (.astore_n 1, 1) := by decide +kernel
theorem dX1_fault_19 : decode cX1_fault 19 = .ok (.iconst (-1), 1) := by decide +kernel
theorem dX1_fault_20 : decode cX1_fault 20 = .ok (.ireturn, 1) := by decide +kernel
theorem dX1_fault_21 : decode cX1_fault 21 = .ok (.astore_n 1, 1) := by decide +kernel
theorem dX1_fault_22 : decode cX1_fault 22 = .ok (.aload_n 1, 1) := by decide +kernel
theorem dX1_fault_23 : decode cX1_fault 23 = .ok (.getfield 263, 3) := by decide +kernel
theorem dX1_fault_26 : decode cX1_fault 26 = .ok (.ireturn, 1) := by decide +kernel
section
variable {p : Program} {l : Launch} {e : Env} {s : State} {m : MethodId} {args : Array Value} {below : List Frame} {meth : Method} {c : Code} {D : gD} {A : Nat → Prop} {ad : Nat → Nat} {τ : Shp} {σ : Mem}
set_option maxRecDepth 100000 in
set_option maxHeartbeats 4000000 in
theorem w_X1_fault (hc0 : sC τ ≤ LCl) (hs0 : sL τ ≤ LSl) (hi0 : sS τ 0 = (10, 0)) {r : (Rs Int32)} (h : f_X1_fault σ τ = some r) : Mg l yX1_fault (wsW_ yX1_fault cX1_fault 2 (some .int) [(0, 20, 21, 261)]) (rmA 782 18671 τ) (va_Pc [.ref (ad 0)] (PreG D (Ew D A) A ad (sS τ) σ)) (QR D A ad τ vI r) A := by
  refine a_metW hc0 hs0 (by decide) (Nat.le_of_ble_eq_true rfl) (fun p e s m args below meth c ls Z hnm hex hS B G hl => ?_)
  have hx := Z.1
  have hb := Z.2.1
  have hown := Z.2.2.2.2.2.1
  have hts := Z.2.2.2.2.2.2.1
  refine (?_ : ∀ cl sl, Bd (sC τ) (sL τ) (rmA 782 18671 τ) τ cl sl → W p l e (rmA 782 18671 τ) s m args below meth c s.heap [] cl sl (GQ below (QR D A ad τ vI r) args s A) (F0 m 0 ls [])) 0 0 B
  clear B
  intro cl sl B
  unfold f_X1_fault at h
  refine a_newD Z hS B cls_5 dv_5 nc_5 q509 q510 q84 dX1_fault_0 h (fun ad1 σ1 τ1 j2 H ga gb gc hj2 hS B h => ?_)
  have g1 : Gx τ ad τ1 ad1 := ⟨ga, gb, gc⟩
  have G := G.trans g1
  generalize cl + 1 = cl at B ⊢
  generalize sl + 4 = sl at B ⊢
  have ea3 := g1.ad hi0
  replace hi0 := g1.sh hi0
  replace hl : lv_has ls 2 [(0, .ref (ad1 0))] := by rw [ea3]; exact hl
  refine lv_dup hx hb dX1_fault_3 rfl ?_
  refine lv_aload_n hx hb dX1_fault_4 rfl (lv_at hl 0 rfl) ?_
  refine h_getC (n := 5) (j := 5) (sh := (2, 160)) Z hS cls_0 hi0 (by decide) rfl rfl rfl fl_X1_28_0 dX1_fault_5 (fun hc4 => ?_)
  refine lv_aload_n hx hb dX1_fault_8 rfl (lv_at hl 0 rfl) ?_
  refine h_getI Z hS cls_0 hi0 (by decide) rfl fl_X1_245_0 dX1_fault_9 h (fun x5 h => ?_)
  refine h_cm hS h (fun z hz => h_rI (rest := [.ref (ad1 j2)]) Z hS vc_X1_254 (w_X8_init hj2 hc4 hz) rfl rfl ⟨Nat.le_of_ble_eq_true rfl, Nat.le_of_ble_eq_true rfl⟩ rfl hl.1 rfl (Nat.le_of_ble_eq_true rfl) B.cl B.sl dX1_fault_12) (fun σ6 H locs hS h => ?_)
  refine a_callC (av := [.ref (ad1 j2)]) (rest := []) Z hex ⟨by decide, by decide⟩ (by decide) q508 hS B G (en_V (rest := []) Z hS hj2 rfl v_X1_257 rfl rfl dX1_fault_15) q531 ⟨Nat.le_of_ble_eq_true rfl, Nat.le_of_ble_eq_true rfl⟩ hl.1 (Nat.le_of_ble_eq_true rfl) dX1_fault_15 h (fun z hz => w_X8_whole B.2.2.2.2.1 B.2.2.2.2.2 hj2 hz) (fun σ7 τ7 j8 ad7 H locs cl sl g7 hS B h => ?_) (fun σh τh wh ah adh H locs cl sl gh hS B hwh h => ?_)
  · have G := G.trans g7
    obtain ⟨hj8, h⟩ := gd_el h
    replace hj8 := isSh_1 hj8
    have ea9 := g7.ad hi0
    replace hi0 := g7.sh hi0
    replace hl : lv_has ls 2 [(0, .ref (ad7 0))] := by rw [ea9]; exact hl
    refine lv_astore_n (lv' := [(1, .ref (ad7 j8)), (0, .ref (ad7 0))]) hx hb dX1_fault_18 rfl hl (by decide) rfl (fun ls hl => ?_)
    refine lv_iconst (v := (-1 : Int32)) hx hb dX1_fault_19 (by decide) ?_
    exact a_iret Z hS B G dX1_fault_20 h
  · have G := G.trans gh
    have ea0 := gh.ad hi0
    replace hl : lv_has ls 2 [(0, .ref (adh 0))] := by rw [ea0] ; exact lv_sub hl [0] rfl
    refine lv_astore_n (lv' := [(1, .ref ah), (0, .ref (adh 0))]) hx hb dX1_fault_21 rfl hl (by decide) rfl (fun ls hl => ?_)
    refine lv_aload_n hx hb dX1_fault_22 rfl (lv_at hl 0 rfl) ?_
    refine c_at Z hwh (fl_X1_263_15) dX1_fault_23 ?_
    exact a_iret Z hS B G dX1_fault_26 h
end
theorem dX1_rules_0 : decode cX1_rules 0 = .ok (.aload_n 0, 1) := by decide +kernel
theorem dX1_rules_1 : decode cX1_rules 1 = .ok (.getfield 266, 3) := by decide +kernel
theorem dX1_rules_4 : decode cX1_rules 4 = .ok (.bipush 12, 2) := by decide +kernel
theorem dX1_rules_6 : decode cX1_rules 6 = .ok (.if_icmp .ne 5, 3) := by decide +kernel
theorem dX1_rules_9 : decode cX1_rules 9 = .ok (.iconst (-1), 1) := by decide +kernel
theorem dX1_rules_10 : decode cX1_rules 10 = .ok (.ireturn, 1) := by decide +kernel
theorem dX1_rules_11 : decode cX1_rules 11 = .ok (.aload_n 0, 1) := by decide +kernel
theorem dX1_rules_12 : decode cX1_rules 12 = .ok (.getfield 34, 3) := by decide +kernel
theorem dX1_rules_15 : decode cX1_rules 15 = .ok (.aload_n 0, 1) := by decide +kernel
theorem dX1_rules_16 : decode cX1_rules 16 = .ok (.getfield 266, 3) := by decide +kernel
theorem dX1_rules_19 : decode cX1_rules 19 = .ok (.new 252, 3) := by decide +kernel
theorem dX1_rules_22 : decode cX1_rules 22 = .ok (.dup, 1) := by decide +kernel
theorem dX1_rules_23 : decode cX1_rules 23 = .ok (.aload_n 0, 1) := by decide +kernel
theorem dX1_rules_24 : decode cX1_rules 24 = .ok (.getfield 28, 3) := by decide +kernel
theorem dX1_rules_27 : decode cX1_rules 27 = .ok (.aload_n 0, 1) := by decide +kernel
theorem dX1_rules_28 : decode cX1_rules 28 = .ok (.getfield 245, 3) := by decide +kernel
theorem dX1_rules_31 : decode cX1_rules 31 = .ok (.invokespecial 254, 3) := by decide +kernel
theorem dX1_rules_34 : decode cX1_rules 34 = .ok (.invokevirtual 257, 3) := by decide +kernel
theorem dX1_rules_37 : decode cX1_rules 37 = .ok (.aastore, 1) := by decide +kernel
theorem dX1_rules_38 : decode cX1_rules 38 = .ok (.goto 6, 3) := by decide +kernel
theorem dX1_rules_41 : decode cX1_rules 41 = .ok (.astore_n 1, 1) := by decide +kernel
theorem dX1_rules_42 : decode cX1_rules 42 = .ok (.iconst (-1), 1) := by decide +kernel
theorem dX1_rules_43 : decode cX1_rules 43 = .ok (.ireturn, 1) := by decide +kernel
theorem dX1_rules_44 : decode cX1_rules 44 = .ok (.aload_n 0, 1) := by decide +kernel
theorem dX1_rules_45 : decode cX1_rules 45 = .ok (.iconst 0, 1) := by decide +kernel
theorem dX1_rules_46 : decode cX1_rules 46 = .ok (.putfield 245, 3) := by decide +kernel
theorem dX1_rules_49 : decode cX1_rules 49 = .ok (.aload_n 0, 1) := by decide +kernel
theorem dX1_rules_50 : decode cX1_rules 50 = .ok (.dup, 1) := by decide +kernel
theorem dX1_rules_51 : decode cX1_rules 51 = .ok (.getfield 266, 3) := by decide +kernel
theorem dX1_rules_54 : decode cX1_rules 54 = .ok (.iconst 1, 1) := by decide +kernel
theorem dX1_rules_55 : decode cX1_rules 55 = .ok (.iadd, 1) := by decide +kernel
theorem dX1_rules_56 : decode cX1_rules 56 = .ok (.putfield 266, 3) := by decide +kernel
theorem dX1_rules_59 : decode cX1_rules 59 = .ok (.aload_n 0, 1) := by decide +kernel
theorem dX1_rules_60 : decode cX1_rules 60 = .ok (.getfield 266, 3) := by decide +kernel
theorem dX1_rules_63 : decode cX1_rules 63 = .ok (.iconst 1, 1) := by decide +kernel
theorem dX1_rules_64 : decode cX1_rules 64 = .ok (.isub, 1) := by decide +kernel
theorem dX1_rules_65 : decode cX1_rules 65 = .ok (.ireturn, 1) := by decide +kernel
section
variable {p : Program} {l : Launch} {e : Env} {s : State} {m : MethodId} {args : Array Value} {below : List Frame} {meth : Method} {c : Code} {D : gD} {A : Nat → Prop} {ad : Nat → Nat} {τ : Shp} {σ : Mem}
set_option maxRecDepth 100000 in
set_option maxHeartbeats 4000000 in
theorem w_X1_rules (hc0 : sC τ ≤ LCl) (hs0 : sL τ ≤ LSl) (hi0 : sS τ 0 = (10, 0)) {r : (Rs Int32)} (h : f_X1_rules σ τ = some r) : Mg l yX1_rules (wsW_ yX1_rules cX1_rules 2 (some .int) [(11, 38, 41, 261)]) (rmA 782 18671 τ) (va_Pc [.ref (ad 0)] (PreG D (Ew D A) A ad (sS τ) σ)) (QR D A ad τ vI r) A := by
  refine a_metW hc0 hs0 (by decide) (Nat.le_of_ble_eq_true rfl) (fun p e s m args below meth c ls Z hnm hex hS B G hl => ?_)
  have hx := Z.1
  have hb := Z.2.1
  have hown := Z.2.2.2.2.2.1
  have hts := Z.2.2.2.2.2.2.1
  refine (?_ : ∀ cl sl, Bd (sC τ) (sL τ) (rmA 782 18671 τ) τ cl sl → W p l e (rmA 782 18671 τ) s m args below meth c s.heap [] cl sl (GQ below (QR D A ad τ vI r) args s A) (F0 m 0 ls [])) 0 0 B
  clear B
  intro cl sl B
  unfold f_X1_rules at h
  refine lv_aload_n hx hb dX1_rules_0 rfl (lv_at hl 0 rfl) ?_
  refine h_getI Z hS cls_0 hi0 (by decide) rfl fl_X1_266_0 dX1_rules_1 h (fun x1 h => ?_)
  refine lv_bipush (v := (12 : Int32)) hx hb dX1_rules_4 (by decide) ?_
  refine lv_icmp_ne (tgt := 11) hx hb dX1_rules_6 (by decide) (fun c2 => ?_) (fun c2 => ?_)
  · have h := if_f h c2
    refine lv_aload_n hx hb dX1_rules_11 rfl (lv_at hl 0 rfl) ?_
    refine h_getC (n := 6) (j := 6) (sh := (7, 12)) Z hS cls_0 hi0 (by decide) rfl rfl rfl fl_X1_34_0 dX1_rules_12 (fun hc3 => ?_)
    refine lv_aload_n hx hb dX1_rules_15 rfl (lv_at hl 0 rfl) ?_
    refine h_getI Z hS cls_0 hi0 (by decide) rfl fl_X1_266_0 dX1_rules_16 h (fun x4 h => ?_)
    refine a_newD Z hS B cls_5 dv_5 nc_5 q509 q510 q84 dX1_rules_19 h (fun ad5 σ5 τ5 j6 H ga gb gc hj6 hS B h => ?_)
    have g5 : Gx τ ad τ5 ad5 := ⟨ga, gb, gc⟩
    have G := G.trans g5
    generalize cl + 1 = cl at B ⊢
    generalize sl + 4 = sl at B ⊢
    have ea7 := g5.ad hi0
    replace hi0 := g5.sh hi0
    have ea8 := g5.ad hc3
    replace hc3 := g5.sha hc3 (by decide)
    replace hl : lv_has ls 2 [(0, .ref (ad5 0))] := by rw [ea7]; exact hl
    refine W_stk (st' := [.ref (ad5 j6), .int x4, .ref (ad5 6)]) (by first | (rw [ea8]; done) | (rw [ea8]; rfl)) ?_
    refine lv_dup hx hb dX1_rules_22 rfl ?_
    refine lv_aload_n hx hb dX1_rules_23 rfl (lv_at hl 0 rfl) ?_
    refine h_getC (n := 5) (j := 5) (sh := (2, 160)) Z hS cls_0 hi0 (by decide) rfl rfl rfl fl_X1_28_0 dX1_rules_24 (fun hc9 => ?_)
    refine lv_aload_n hx hb dX1_rules_27 rfl (lv_at hl 0 rfl) ?_
    refine h_getI Z hS cls_0 hi0 (by decide) rfl fl_X1_245_0 dX1_rules_28 h (fun x10 h => ?_)
    refine h_cm hS h (fun z hz => h_rI (rest := [.ref (ad5 j6), .int x4, .ref (ad5 6)]) Z hS vc_X1_254 (w_X8_init hj6 hc9 hz) rfl rfl ⟨Nat.le_of_ble_eq_true rfl, Nat.le_of_ble_eq_true rfl⟩ rfl hl.1 rfl (Nat.le_of_ble_eq_true rfl) B.cl B.sl dX1_rules_31) (fun σ11 H locs hS h => ?_)
    refine a_callC (av := [.ref (ad5 j6)]) (rest := [.int x4, .ref (ad5 6)]) Z hex ⟨by decide, by decide⟩ (by decide) q508 hS B G (en_V (rest := [.int x4, .ref (ad5 6)]) Z hS hj6 rfl v_X1_257 rfl rfl dX1_rules_34) q531 ⟨Nat.le_of_ble_eq_true rfl, Nat.le_of_ble_eq_true rfl⟩ hl.1 (Nat.le_of_ble_eq_true rfl) dX1_rules_34 h (fun z hz => w_X8_whole B.2.2.2.2.1 B.2.2.2.2.2 hj6 hz) (fun σ12 τ12 j13 ad12 H locs cl sl g12 hS B h => ?_) (fun σh τh wh ah adh H locs cl sl gh hS B hwh h => ?_)
    · have G := G.trans g12
      obtain ⟨hj13, h⟩ := gd_el h
      replace hj13 := isSh_1 hj13
      have ea14 := g12.ad hi0
      replace hi0 := g12.sh hi0
      have ea15 := g12.ad hc3
      replace hc3 := g12.sha hc3 (by decide)
      replace hl : lv_has ls 2 [(0, .ref (ad12 0))] := by rw [ea14]; exact hl
      refine W_stk (st' := [.ref (ad12 j13), .int x4, .ref (ad12 6)]) (by first | (rw [ea15]; done) | (rw [ea15]; rfl)) ?_
      refine h_aast Z hS hc3 (by decide) (by decide) hj13 dX1_rules_37 h (fun σ16 H locs hS h => ?_)
      refine lv_goto (tgt := 44) hx hb dX1_rules_38 (by decide) ?_
      refine lv_aload_n hx hb dX1_rules_44 rfl (lv_at hl 0 rfl) ?_
      refine lv_iconst (v := (0 : Int32)) hx hb dX1_rules_45 (by decide) ?_
      refine h_putI Z hS cls_0 hi0 (by decide) rfl rfl rfl fl_X1_245_0 dX1_rules_46 h (fun σ17 H locs hS h => ?_)
      refine lv_aload_n hx hb dX1_rules_49 rfl (lv_at hl 0 rfl) ?_
      refine lv_dup hx hb dX1_rules_50 rfl ?_
      refine h_getI Z hS cls_0 hi0 (by decide) rfl fl_X1_266_0 dX1_rules_51 h (fun x18 h => ?_)
      refine lv_iconst (v := (1 : Int32)) hx hb dX1_rules_54 (by decide) ?_
      refine lv_iadd hx hb dX1_rules_55 ?_
      refine h_putI Z hS cls_0 hi0 (by decide) rfl rfl rfl fl_X1_266_0 dX1_rules_56 h (fun σ19 H locs hS h => ?_)
      refine lv_aload_n hx hb dX1_rules_59 rfl (lv_at hl 0 rfl) ?_
      refine h_getI Z hS cls_0 hi0 (by decide) rfl fl_X1_266_0 dX1_rules_60 h (fun x20 h => ?_)
      refine lv_iconst (v := (1 : Int32)) hx hb dX1_rules_63 (by decide) ?_
      refine lv_isub hx hb dX1_rules_64 ?_
      exact a_iret Z hS B G dX1_rules_65 h
    · have G := G.trans gh
      have ea0 := gh.ad hi0
      replace hl : lv_has ls 2 [(0, .ref (adh 0))] := by rw [ea0] ; exact lv_sub hl [0] rfl
      refine lv_astore_n (lv' := [(1, .ref ah), (0, .ref (adh 0))]) hx hb dX1_rules_41 rfl hl (by decide) rfl (fun ls hl => ?_)
      refine lv_iconst (v := (-1 : Int32)) hx hb dX1_rules_42 (by decide) ?_
      exact a_iret Z hS B G dX1_rules_43 h
  · have h := if_t h c2
    refine lv_iconst (v := (-1 : Int32)) hx hb dX1_rules_9 (by decide) ?_
    exact a_iret Z hS B G dX1_rules_10 h
end
theorem dX1_filter_0 : decode cX1_filter 0 = .ok (.aload_n 0, 1) := by decide +kernel
theorem dX1_filter_1 : decode cX1_filter 1 = .ok (.getfield 140, 3) := by decide +kernel
theorem dX1_filter_4 : decode cX1_filter 4 = .ok (.bipush 8, 2) := by decide +kernel
theorem dX1_filter_6 : decode cX1_filter 6 = .ok (.if_icmp .ne 5, 3) := by decide +kernel
theorem dX1_filter_9 : decode cX1_filter 9 = .ok (.iconst (-1), 1) := by decide +kernel
theorem dX1_filter_10 : decode cX1_filter 10 = .ok (.ireturn, 1) := by decide +kernel
theorem dX1_filter_11 : decode cX1_filter 11 = .ok (.aload_n 0, 1) := by decide +kernel
theorem dX1_filter_12 : decode cX1_filter 12 = .ok (.getfield 24, 3) := by decide +kernel
theorem dX1_filter_15 : decode cX1_filter 15 = .ok (.aload_n 0, 1) := by decide +kernel
theorem dX1_filter_16 : decode cX1_filter 16 = .ok (.getfield 140, 3) := by decide +kernel
theorem dX1_filter_19 : decode cX1_filter 19 = .ok (.new 22, 3) := by decide +kernel
theorem dX1_filter_22 : decode cX1_filter 22 = .ok (.dup, 1) := by decide +kernel
theorem dX1_filter_23 : decode cX1_filter 23 = .ok (.invokespecial 97, 3) := by decide +kernel
theorem dX1_filter_26 : decode cX1_filter 26 = .ok (.aastore, 1) := by decide +kernel
theorem dX1_filter_27 : decode cX1_filter 27 = .ok (.aload_n 0, 1) := by decide +kernel
theorem dX1_filter_28 : decode cX1_filter 28 = .ok (.dup, 1) := by decide +kernel
theorem dX1_filter_29 : decode cX1_filter 29 = .ok (.getfield 140, 3) := by decide +kernel
theorem dX1_filter_32 : decode cX1_filter 32 = .ok (.iconst 1, 1) := by decide +kernel
theorem dX1_filter_33 : decode cX1_filter 33 = .ok (.iadd, 1) := by decide +kernel
theorem dX1_filter_34 : decode cX1_filter 34 = .ok (.putfield 140, 3) := by decide +kernel
theorem dX1_filter_37 : decode cX1_filter 37 = .ok (.aload_n 0, 1) := by decide +kernel
theorem dX1_filter_38 : decode cX1_filter 38 = .ok (.getfield 140, 3) := by decide +kernel
theorem dX1_filter_41 : decode cX1_filter 41 = .ok (.iconst 1, 1) := by decide +kernel
theorem dX1_filter_42 : decode cX1_filter 42 = .ok (.isub, 1) := by decide +kernel
theorem dX1_filter_43 : decode cX1_filter 43 = .ok (.ireturn, 1) := by decide +kernel
section
variable {p : Program} {l : Launch} {e : Env} {s : State} {m : MethodId} {args : Array Value} {below : List Frame} {meth : Method} {c : Code} {D : gD} {A : Nat → Prop} {ad : Nat → Nat} {τ : Shp} {σ : Mem}
set_option maxRecDepth 100000 in
set_option maxHeartbeats 4000000 in
theorem w_X1_filter (hc0 : sC τ ≤ LCl) (hs0 : sL τ ≤ LSl) (hi0 : sS τ 0 = (10, 0)) {r : (Rs Int32)} (h : f_X1_filter σ τ = some r) : Mg l yX1_filter (ws_ yX1_filter cX1_filter 1 (some .int)) (rmA 4 72 τ) (va_Pc [.ref (ad 0)] (PreG D (Ew D A) A ad (sS τ) σ)) (QR D A ad τ vI r) A := by
  refine a_met hc0 hs0 (by decide) (Nat.le_of_ble_eq_true rfl) (fun p e s m args below meth c ls Z hnm hex hS B G hl => ?_)
  have hx := Z.1
  have hb := Z.2.1
  have hown := Z.2.2.2.2.2.1
  have hts := Z.2.2.2.2.2.2.1
  refine (?_ : ∀ cl sl, Bd (sC τ) (sL τ) (rmA 4 72 τ) τ cl sl → W p l e (rmA 4 72 τ) s m args below meth c s.heap [] cl sl (GQ below (QR D A ad τ vI r) args s A) (F0 m 0 ls [])) 0 0 B
  clear B
  intro cl sl B
  unfold f_X1_filter at h
  refine lv_aload_n hx hb dX1_filter_0 rfl (lv_at hl 0 rfl) ?_
  refine h_getI Z hS cls_0 hi0 (by decide) rfl fl_X1_140_0 dX1_filter_1 h (fun x1 h => ?_)
  refine lv_bipush (v := (8 : Int32)) hx hb dX1_filter_4 (by decide) ?_
  refine lv_icmp_ne (tgt := 11) hx hb dX1_filter_6 (by decide) (fun c2 => ?_) (fun c2 => ?_)
  · have h := if_f h c2
    refine lv_aload_n hx hb dX1_filter_11 rfl (lv_at hl 0 rfl) ?_
    refine h_getC (n := 3) (j := 3) (sh := (5, 8)) Z hS cls_0 hi0 (by decide) rfl rfl rfl fl_X1_24_0 dX1_filter_12 (fun hc3 => ?_)
    refine lv_aload_n hx hb dX1_filter_15 rfl (lv_at hl 0 rfl) ?_
    refine h_getI Z hS cls_0 hi0 (by decide) rfl fl_X1_140_0 dX1_filter_16 h (fun x4 h => ?_)
    refine a_newO (z := 1) (j := (1000 + 100 * (x4).toNatClampNeg)) Z hS B cls_2 dv_2 (fun z => by cases z) q135 q142 q78 dX1_filter_19 h (fun ad5 σ5 τ5 H ga gb gc hn6 _ hS B h => ?_)
    have g5 : Gx τ ad τ5 ad5 := ⟨ga, gb, gc⟩
    have G := G.trans g5
    generalize cl + 1 = cl at B ⊢
    generalize sl + 17 = sl at B ⊢
    have ea7 := g5.ad hi0
    replace hi0 := g5.sh hi0
    have ea8 := g5.ad hc3
    replace hc3 := g5.sha hc3 (by decide)
    replace hl : lv_has ls 1 [(0, .ref (ad5 0))] := by rw [ea7]; exact hl
    refine W_stk (st' := [.ref (ad5 (1000 + 100 * (x4).toNatClampNeg)), .int x4, .ref (ad5 3)]) (by first | (rw [ea8]; done) | (rw [ea8]; rfl)) ?_
    refine lv_dup hx hb dX1_filter_22 rfl ?_
    refine a_call (av := [.ref (ad5 (1000 + 100 * (x4).toNatClampNeg))]) (rest := [.ref (ad5 (1000 + 100 * (x4).toNatClampNeg)), .int x4, .ref (ad5 3)]) Z hex hS B G (en_I (rest := [.ref (ad5 (1000 + 100 * (x4).toNatClampNeg)), .int x4, .ref (ad5 3)]) Z vc_X1_97 rfl rfl dX1_filter_23) q145 ⟨Nat.le_of_ble_eq_true rfl, Nat.le_of_ble_eq_true rfl⟩ hl.1 (Nat.le_of_ble_eq_true rfl) dX1_filter_23 h (fun z hz => w_X3_init B.2.2.2.2.1 B.2.2.2.2.2 hn6 hz) (fun σ9 τ9 _ ad9 H locs cl sl g9 hS B h => ?_)
    have G := G.trans g9
    have eb10 := g9.ad hn6
    obtain ⟨hk10, h⟩ := gd_el h
    replace hk10 := isSh_1 hk10
    have ea11 := g9.ad hi0
    replace hi0 := g9.sh hi0
    have ea12 := g9.ad hc3
    replace hc3 := g9.sha hc3 (by decide)
    replace hl : lv_has ls 1 [(0, .ref (ad9 0))] := by rw [ea11]; exact hl
    refine W_stk (st' := [.ref (ad9 (1000 + 100 * (x4).toNatClampNeg)), .int x4, .ref (ad9 3)]) (by first | (rw [eb10, ea12]; done) | (rw [eb10, ea12]; rfl)) ?_
    refine h_aast Z hS hc3 (by decide) (by decide) hk10 dX1_filter_26 h (fun σ13 H locs hS h => ?_)
    refine lv_aload_n hx hb dX1_filter_27 rfl (lv_at hl 0 rfl) ?_
    refine lv_dup hx hb dX1_filter_28 rfl ?_
    refine h_getI Z hS cls_0 hi0 (by decide) rfl fl_X1_140_0 dX1_filter_29 h (fun x14 h => ?_)
    refine lv_iconst (v := (1 : Int32)) hx hb dX1_filter_32 (by decide) ?_
    refine lv_iadd hx hb dX1_filter_33 ?_
    refine h_putI Z hS cls_0 hi0 (by decide) rfl rfl rfl fl_X1_140_0 dX1_filter_34 h (fun σ15 H locs hS h => ?_)
    refine lv_aload_n hx hb dX1_filter_37 rfl (lv_at hl 0 rfl) ?_
    refine h_getI Z hS cls_0 hi0 (by decide) rfl fl_X1_140_0 dX1_filter_38 h (fun x16 h => ?_)
    refine lv_iconst (v := (1 : Int32)) hx hb dX1_filter_41 (by decide) ?_
    refine lv_isub hx hb dX1_filter_42 ?_
    exact a_iret Z hS B G dX1_filter_43 h
  · have h := if_t h c2
    refine lv_iconst (v := (-1 : Int32)) hx hb dX1_filter_9 (by decide) ?_
    exact a_iret Z hS B G dX1_filter_10 h
end
theorem dX1_cell_0 : decode cX1_cell 0 = .ok (.aload_n 0, 1) := by decide +kernel
theorem dX1_cell_1 : decode cX1_cell 1 = .ok (.iload_n 1, 1) := by decide +kernel
theorem dX1_cell_2 : decode cX1_cell 2 = .ok (.invokevirtual 144, 3) := by decide +kernel
theorem dX1_cell_5 : decode cX1_cell 5 = .ok (.ifCond .eq 53, 3) := by decide +kernel
theorem dX1_cell_8 : decode cX1_cell 8 = .ok (.iload_n 2, 1) := by decide +kernel
theorem dX1_cell_9 : decode cX1_cell 9 = .ok (.i2l, 1) := by decide +kernel
theorem dX1_cell_10 : decode cX1_cell 10 = .ok (.lconst 1, 1) := by decide +kernel
theorem dX1_cell_11 : decode cX1_cell 11 = .ok (.ldc2_w 150, 3) := by decide +kernel
theorem dX1_cell_14 : decode cX1_cell 14 = .ok (.invokestatic 5, 3) := by decide +kernel
theorem dX1_cell_17 : decode cX1_cell 17 = .ok (.ifCond .eq 41, 3) := by decide +kernel
theorem dX1_cell_20 : decode cX1_cell 20 = .ok (.iload_n 3, 1) := by decide +kernel
theorem dX1_cell_21 : decode cX1_cell 21 = .ok (.i2l, 1) := by decide +kernel
theorem dX1_cell_22 : decode cX1_cell 22 = .ok (.lconst 1, 1) := by decide +kernel
theorem dX1_cell_23 : decode cX1_cell 23 = .ok (.ldc2_w 138, 3) := by decide +kernel
theorem dX1_cell_26 : decode cX1_cell 26 = .ok (.invokestatic 5, 3) := by decide +kernel
theorem dX1_cell_29 : decode cX1_cell 29 = .ok (.ifCond .eq 29, 3) := by decide +kernel
theorem dX1_cell_32 : decode cX1_cell 32 = .ok (.aload_n 0, 1) := by decide +kernel
theorem dX1_cell_33 : decode cX1_cell 33 = .ok (.getfield 24, 3) := by decide +kernel
theorem dX1_cell_36 : decode cX1_cell 36 = .ok (.iload_n 1, 1) := by decide +kernel
theorem dX1_cell_37 : decode cX1_cell 37 = .ok (.aaload, 1) := by decide +kernel
theorem dX1_cell_38 : decode cX1_cell 38 = .ok (.getfield 147, 3) := by decide +kernel
theorem dX1_cell_41 : decode cX1_cell 41 = .ok (.bipush 10, 2) := by decide +kernel
theorem dX1_cell_43 : decode cX1_cell 43 = .ok (.if_icmp .eq 15, 3) := by decide +kernel
theorem dX1_cell_46 : decode cX1_cell 46 = .ok (.aload_n 0, 1) := by decide +kernel
theorem dX1_cell_47 : decode cX1_cell 47 = .ok (.getfield 24, 3) := by decide +kernel
theorem dX1_cell_50 : decode cX1_cell 50 = .ok (.iload_n 1, 1) := by decide +kernel
theorem dX1_cell_51 : decode cX1_cell 51 = .ok (.aaload, 1) := by decide +kernel
theorem dX1_cell_52 : decode cX1_cell 52 = .ok (.getfield 152, 3) := by decide +kernel
theorem dX1_cell_55 : decode cX1_cell 55 = .ok (.ifCond .eq 5, 3) := by decide +kernel
theorem dX1_cell_58 : decode cX1_cell 58 = .ok (.iconst (-1), 1) := by decide +kernel
theorem dX1_cell_59 : decode cX1_cell 59 = .ok (.ireturn, 1) := by decide +kernel
theorem dX1_cell_60 : decode cX1_cell 60 = .ok (.aload_n 0, 1) := by decide +kernel
theorem dX1_cell_61 : decode cX1_cell 61 = .ok (.getfield 24, 3) := by decide +kernel
theorem dX1_cell_64 : decode cX1_cell 64 = .ok (.iload_n 1, 1) := by decide +kernel
theorem dX1_cell_65 : decode cX1_cell 65 = .ok (.aaload, 1) := by decide +kernel
theorem dX1_cell_66 : decode cX1_cell 66 = .ok (.astore 4, 2) := by decide +kernel
theorem dX1_cell_68 : decode cX1_cell 68 = .ok (.aload 4, 2) := by decide +kernel
theorem dX1_cell_70 : decode cX1_cell 70 = .ok (.getfield 156, 3) := by decide +kernel
theorem dX1_cell_73 : decode cX1_cell 73 = .ok (.aload 4, 2) := by decide +kernel
theorem dX1_cell_75 : decode cX1_cell 75 = .ok (.getfield 147, 3) := by decide +kernel
theorem dX1_cell_78 : decode cX1_cell 78 = .ok (.new 91, 3) := by decide +kernel
theorem dX1_cell_81 : decode cX1_cell 81 = .ok (.dup, 1) := by decide +kernel
theorem dX1_cell_82 : decode cX1_cell 82 = .ok (.iload_n 2, 1) := by decide +kernel
theorem dX1_cell_83 : decode cX1_cell 83 = .ok (.iload_n 3, 1) := by decide +kernel
theorem dX1_cell_84 : decode cX1_cell 84 = .ok (.invokespecial 159, 3) := by decide +kernel
theorem dX1_cell_87 : decode cX1_cell 87 = .ok (.aastore, 1) := by decide +kernel
theorem dX1_cell_88 : decode cX1_cell 88 = .ok (.aload 4, 2) := by decide +kernel
theorem dX1_cell_90 : decode cX1_cell 90 = .ok (.dup, 1) := by decide +kernel
theorem dX1_cell_91 : decode cX1_cell 91 = .ok (.getfield 147, 3) := by decide +kernel
theorem dX1_cell_94 : decode cX1_cell 94 = .ok (.iconst 1, 1) := by decide +kernel
theorem dX1_cell_95 : decode cX1_cell 95 = .ok (.iadd, 1) := by decide +kernel
theorem dX1_cell_96 : decode cX1_cell 96 = .ok (.putfield 147, 3) := by decide +kernel
theorem dX1_cell_99 : decode cX1_cell 99 = .ok (.aload 4, 2) := by decide +kernel
theorem dX1_cell_101 : decode cX1_cell 101 = .ok (.getfield 147, 3) := by decide +kernel
theorem dX1_cell_104 : decode cX1_cell 104 = .ok (.ireturn, 1) := by decide +kernel
section
variable {p : Program} {l : Launch} {e : Env} {s : State} {m : MethodId} {args : Array Value} {below : List Frame} {meth : Method} {c : Code} {D : gD} {A : Nat → Prop} {ad : Nat → Nat} {τ : Shp} {σ : Mem}
set_option maxRecDepth 100000 in
set_option maxHeartbeats 4000000 in
theorem w_X1_cell {a1 : Int32} {a2 : Int32} {a3 : Int32} (hc0 : sC τ ≤ LCl) (hs0 : sL τ ≤ LSl) (hi0 : sS τ 0 = (10, 0)) {r : (Rs Int32)} (h : f_X1_cell σ τ a1 a2 a3 = some r) : Mg l yX1_cell (ws_ yX1_cell cX1_cell 5 (some .int)) (rmA 3 54 τ) (va_Pc [.ref (ad 0), .int a1, .int a2, .int a3] (PreG D (Ew D A) A ad (sS τ) σ)) (QR D A ad τ vI r) A := by
  refine a_met hc0 hs0 (by decide) (Nat.le_of_ble_eq_true rfl) (fun p e s m args below meth c ls Z hnm hex hS B G hl => ?_)
  have hx := Z.1
  have hb := Z.2.1
  have hown := Z.2.2.2.2.2.1
  have hts := Z.2.2.2.2.2.2.1
  refine (?_ : ∀ cl sl, Bd (sC τ) (sL τ) (rmA 3 54 τ) τ cl sl → W p l e (rmA 3 54 τ) s m args below meth c s.heap [] cl sl (GQ below (QR D A ad τ vI r) args s A) (F0 m 0 ls [])) 0 0 B
  clear B
  intro cl sl B
  unfold f_X1_cell at h
  refine lv_aload_n hx hb dX1_cell_0 rfl (lv_at hl 0 rfl) ?_
  refine lv_iload_n hx hb dX1_cell_1 rfl (lv_at hl 1 rfl) ?_
  refine h_ci hS h (fun z hz => h_rV (rest := []) Z hS hi0 rfl v_X1_144 (w_X1_isFilter hi0 hz) rfl rfl ⟨Nat.le_of_ble_eq_true rfl, Nat.le_of_ble_eq_true rfl⟩ rfl hl.1 rfl (Nat.le_of_ble_eq_true rfl) B.cl B.sl dX1_cell_2) (fun x1 H locs hS h => ?_)
  refine lv_if_eq (tgt := 58) hx hb dX1_cell_5 (by decide) (fun c2 => ?_) (fun c2 => ?_)
  · have h := if_t h c2
    refine lv_iconst (v := (-1 : Int32)) hx hb dX1_cell_58 (by decide) ?_
    exact a_iret Z hS B G dX1_cell_59 h
  · have h := if_f h c2
    refine lv_iload_n hx hb dX1_cell_8 rfl (lv_at hl 2 rfl) ?_
    refine lv_i2l hx hb dX1_cell_9 rfl ?_
    refine lv_lconst (v := (1 : Int64)) hx hb dX1_cell_10 (by decide) ?_
    refine lv_ldc2 (v := (20 : Int64)) hx hb hown (hts _ q371) dX1_cell_11 ?_
    refine h_ci hS h (fun z hz => h_rS (rest := []) Z hS v_X1_5 (w_X1_isIn hz) rfl rfl ⟨Nat.le_of_ble_eq_true rfl, Nat.le_of_ble_eq_true rfl⟩ rfl hl.1 rfl (Nat.le_of_ble_eq_true rfl) B.cl B.sl dX1_cell_14) (fun x3 H locs hS h => ?_)
    refine lv_if_eq (tgt := 58) hx hb dX1_cell_17 (by decide) (fun c4 => ?_) (fun c4 => ?_)
    · have h := if_t h c4
      refine lv_iconst (v := (-1 : Int32)) hx hb dX1_cell_58 (by decide) ?_
      exact a_iret Z hS B G dX1_cell_59 h
    · have h := if_f h c4
      refine lv_iload_n hx hb dX1_cell_20 rfl (lv_at hl 3 rfl) ?_
      refine lv_i2l hx hb dX1_cell_21 rfl ?_
      refine lv_lconst (v := (1 : Int64)) hx hb dX1_cell_22 (by decide) ?_
      refine lv_ldc2 (v := (1000 : Int64)) hx hb hown (hts _ q358) dX1_cell_23 ?_
      refine h_ci hS h (fun z hz => h_rS (rest := []) Z hS v_X1_5 (w_X1_isIn hz) rfl rfl ⟨Nat.le_of_ble_eq_true rfl, Nat.le_of_ble_eq_true rfl⟩ rfl hl.1 rfl (Nat.le_of_ble_eq_true rfl) B.cl B.sl dX1_cell_26) (fun x5 H locs hS h => ?_)
      refine lv_if_eq (tgt := 58) hx hb dX1_cell_29 (by decide) (fun c6 => ?_) (fun c6 => ?_)
      · have h := if_t h c6
        refine lv_iconst (v := (-1 : Int32)) hx hb dX1_cell_58 (by decide) ?_
        exact a_iret Z hS B G dX1_cell_59 h
      · have h := if_f h c6
        refine lv_aload_n hx hb dX1_cell_32 rfl (lv_at hl 0 rfl) ?_
        refine h_getC (n := 3) (j := 3) (sh := (5, 8)) Z hS cls_0 hi0 (by decide) rfl rfl rfl fl_X1_24_0 dX1_cell_33 (fun hc7 => ?_)
        refine lv_iload_n hx hb dX1_cell_36 rfl (lv_at hl 1 rfl) ?_
        refine h_aldN (sh := (12, 0)) Z hS hc7 (by decide) (by decide) rfl dX1_cell_37 h (fun j8 hj8 h => ?_)
        refine h_getI Z hS cls_2 hj8 (by decide) rfl fl_X1_147_2 dX1_cell_38 h (fun x9 h => ?_)
        refine lv_bipush (v := (10 : Int32)) hx hb dX1_cell_41 (by decide) ?_
        refine lv_icmp_eq (tgt := 58) hx hb dX1_cell_43 (by decide) (fun c10 => ?_) (fun c10 => ?_)
        · have h := if_t h c10
          refine lv_iconst (v := (-1 : Int32)) hx hb dX1_cell_58 (by decide) ?_
          exact a_iret Z hS B G dX1_cell_59 h
        · have h := if_f h c10
          refine lv_aload_n hx hb dX1_cell_46 rfl (lv_at hl 0 rfl) ?_
          refine h_getC (n := 3) (j := 3) (sh := (5, 8)) Z hS cls_0 hi0 (by decide) rfl rfl rfl fl_X1_24_0 dX1_cell_47 (fun hc11 => ?_)
          refine lv_iload_n hx hb dX1_cell_50 rfl (lv_at hl 1 rfl) ?_
          refine h_aldN (sh := (12, 0)) Z hS hc11 (by decide) (by decide) rfl dX1_cell_51 h (fun j12 hj12 h => ?_)
          refine h_getI Z hS cls_2 hj12 (by decide) rfl fl_X1_152_2 dX1_cell_52 h (fun x13 h => ?_)
          refine lv_if_eq (tgt := 60) hx hb dX1_cell_55 (by decide) (fun c14 => ?_) (fun c14 => ?_)
          · have h := if_t h c14
            refine lv_aload_n hx hb dX1_cell_60 rfl (lv_at hl 0 rfl) ?_
            refine h_getC (n := 3) (j := 3) (sh := (5, 8)) Z hS cls_0 hi0 (by decide) rfl rfl rfl fl_X1_24_0 dX1_cell_61 (fun hc15 => ?_)
            refine lv_iload_n hx hb dX1_cell_64 rfl (lv_at hl 1 rfl) ?_
            refine h_aldN (sh := (12, 0)) Z hS hc15 (by decide) (by decide) rfl dX1_cell_65 h (fun j16 hj16 h => ?_)
            refine lv_astore (lv' := [(4, .ref (ad j16)), (0, .ref (ad 0)), (1, .int a1), (2, .int a2), (3, .int a3)]) hx hb dX1_cell_66 hl (by decide) rfl (fun ls hl => ?_)
            refine lv_aload hx hb dX1_cell_68 (lv_at hl 0 rfl) ?_
            refine h_getC (n := 1) (j := (j16 + 1)) (sh := (6, 10)) Z hS cls_2 hj16 (by decide) rfl rfl rfl fl_X1_156_2 dX1_cell_70 (fun hc17 => ?_)
            refine lv_aload hx hb dX1_cell_73 (lv_at hl 0 rfl) ?_
            refine h_getI Z hS cls_2 hj16 (by decide) rfl fl_X1_147_2 dX1_cell_75 h (fun x18 h => ?_)
            refine a_newO (z := 1) (j := (j16 + 10 + 5 * (x18).toNatClampNeg)) Z hS B cls_4 dv_4 (fun z => by cases z) q140 q372 q82 dX1_cell_78 h (fun ad19 σ19 τ19 H ga gb gc hn20 _ hS B h => ?_)
            have g19 : Gx τ ad τ19 ad19 := ⟨ga, gb, gc⟩
            have G := G.trans g19
            generalize cl + 1 = cl at B ⊢
            generalize sl + 5 = sl at B ⊢
            have ea21 := g19.ad hi0
            replace hi0 := g19.sh hi0
            have ea22 := g19.ad hj16
            replace hj16 := g19.sh hj16
            have ea23 := g19.ad hc17
            replace hc17 := g19.sha hc17 (by decide)
            replace hl : lv_has ls 5 [(4, .ref (ad19 j16)), (0, .ref (ad19 0)), (1, .int a1), (2, .int a2), (3, .int a3)] := by rw [ea22, ea21]; exact hl
            refine W_stk (st' := [.ref (ad19 (j16 + 10 + 5 * (x18).toNatClampNeg)), .int x18, .ref (ad19 (j16 + 1))]) (by first | (rw [ea23]; done) | (rw [ea23]; rfl)) ?_
            refine lv_dup hx hb dX1_cell_81 rfl ?_
            refine lv_iload_n hx hb dX1_cell_82 rfl (lv_at hl 3 rfl) ?_
            refine lv_iload_n hx hb dX1_cell_83 rfl (lv_at hl 4 rfl) ?_
            refine a_call (av := [.ref (ad19 (j16 + 10 + 5 * (x18).toNatClampNeg)), .int a2, .int a3]) (rest := [.ref (ad19 (j16 + 10 + 5 * (x18).toNatClampNeg)), .int x18, .ref (ad19 (j16 + 1))]) Z hex hS B G (en_I (rest := [.ref (ad19 (j16 + 10 + 5 * (x18).toNatClampNeg)), .int x18, .ref (ad19 (j16 + 1))]) Z vc_X1_159 rfl rfl dX1_cell_84) q375 ⟨Nat.le_of_ble_eq_true rfl, Nat.le_of_ble_eq_true rfl⟩ hl.1 (Nat.le_of_ble_eq_true rfl) dX1_cell_84 h (fun z hz => w_X7_init B.2.2.2.2.1 B.2.2.2.2.2 hn20 hz) (fun σ24 τ24 _ ad24 H locs cl sl g24 hS B h => ?_)
            have G := G.trans g24
            have eb25 := g24.ad hn20
            obtain ⟨hk25, h⟩ := gd_el h
            replace hk25 := isSh_1 hk25
            have ea26 := g24.ad hi0
            replace hi0 := g24.sh hi0
            have ea27 := g24.ad hj16
            replace hj16 := g24.sh hj16
            have ea28 := g24.ad hc17
            replace hc17 := g24.sha hc17 (by decide)
            replace hl : lv_has ls 5 [(4, .ref (ad24 j16)), (0, .ref (ad24 0)), (1, .int a1), (2, .int a2), (3, .int a3)] := by rw [ea27, ea26]; exact hl
            refine W_stk (st' := [.ref (ad24 (j16 + 10 + 5 * (x18).toNatClampNeg)), .int x18, .ref (ad24 (j16 + 1))]) (by first | (rw [eb25, ea28]; done) | (rw [eb25, ea28]; rfl)) ?_
            refine h_aast Z hS hc17 (by decide) (by decide) hk25 dX1_cell_87 h (fun σ29 H locs hS h => ?_)
            refine lv_aload hx hb dX1_cell_88 (lv_at hl 0 rfl) ?_
            refine lv_dup hx hb dX1_cell_90 rfl ?_
            refine h_getI Z hS cls_2 hj16 (by decide) rfl fl_X1_147_2 dX1_cell_91 h (fun x30 h => ?_)
            refine lv_iconst (v := (1 : Int32)) hx hb dX1_cell_94 (by decide) ?_
            refine lv_iadd hx hb dX1_cell_95 ?_
            refine h_putI Z hS cls_2 hj16 (by decide) rfl rfl rfl fl_X1_147_2 dX1_cell_96 h (fun σ31 H locs hS h => ?_)
            refine lv_aload hx hb dX1_cell_99 (lv_at hl 0 rfl) ?_
            refine h_getI Z hS cls_2 hj16 (by decide) rfl fl_X1_147_2 dX1_cell_101 h (fun x32 h => ?_)
            exact a_iret Z hS B G dX1_cell_104 h
          · have h := if_f h c14
            refine lv_iconst (v := (-1 : Int32)) hx hb dX1_cell_58 (by decide) ?_
            exact a_iret Z hS B G dX1_cell_59 h
end
theorem dX1_order_0 : decode cX1_order 0 = .ok (.iload_n 1, 1) := by decide +kernel
theorem dX1_order_1 : decode cX1_order 1 = .ok (.i2l, 1) := by decide +kernel
theorem dX1_order_2 : decode cX1_order 2 = .ok (.lconst 0, 1) := by decide +kernel
theorem dX1_order_3 : decode cX1_order 3 = .ok (.ldc2_w 231, 3) := by decide +kernel
theorem dX1_order_6 : decode cX1_order 6 = .ok (.invokestatic 5, 3) := by decide +kernel
theorem dX1_order_9 : decode cX1_order 9 = .ok (.ifCond .eq 38, 3) := by decide +kernel
theorem dX1_order_12 : decode cX1_order 12 = .ok (.aload_n 0, 1) := by decide +kernel
theorem dX1_order_13 : decode cX1_order 13 = .ok (.getfield 374, 3) := by decide +kernel
theorem dX1_order_16 : decode cX1_order 16 = .ok (.ifCond .eq 31, 3) := by decide +kernel
theorem dX1_order_19 : decode cX1_order 19 = .ok (.aload_n 0, 1) := by decide +kernel
theorem dX1_order_20 : decode cX1_order 20 = .ok (.getfield 294, 3) := by decide +kernel
theorem dX1_order_23 : decode cX1_order 23 = .ok (.ifCond .eq 24, 3) := by decide +kernel
theorem dX1_order_26 : decode cX1_order 26 = .ok (.iload_n 2, 1) := by decide +kernel
theorem dX1_order_27 : decode cX1_order 27 = .ok (.iconst (-1), 1) := by decide +kernel
theorem dX1_order_28 : decode cX1_order 28 = .ok (.if_icmp .eq 21, 3) := by decide +kernel
theorem dX1_order_31 : decode cX1_order 31 = .ok (.iload_n 2, 1) := by decide +kernel
theorem dX1_order_32 : decode cX1_order 32 = .ok (.i2l, 1) := by decide +kernel
theorem dX1_order_33 : decode cX1_order 33 = .ok (.lconst 0, 1) := by decide +kernel
theorem dX1_order_34 : decode cX1_order 34 = .ok (.aload_n 0, 1) := by decide +kernel
theorem dX1_order_35 : decode cX1_order 35 = .ok (.getfield 374, 3) := by decide +kernel
theorem dX1_order_38 : decode cX1_order 38 = .ok (.iconst 1, 1) := by decide +kernel
theorem dX1_order_39 : decode cX1_order 39 = .ok (.isub, 1) := by decide +kernel
theorem dX1_order_40 : decode cX1_order 40 = .ok (.i2l, 1) := by decide +kernel
theorem dX1_order_41 : decode cX1_order 41 = .ok (.invokestatic 5, 3) := by decide +kernel
theorem dX1_order_44 : decode cX1_order 44 = .ok (.ifCond .ne 5, 3) := by decide +kernel
theorem dX1_order_47 : decode cX1_order 47 = .ok (.iconst (-1), 1) := by decide +kernel
theorem dX1_order_48 : decode cX1_order 48 = .ok (.ireturn, 1) := by decide +kernel
theorem dX1_order_49 : decode cX1_order 49 = .ok (.iconst 0, 1) := by decide +kernel
theorem dX1_order_50 : decode cX1_order 50 = .ok (.istore_n 3, 1) := by decide +kernel
theorem dX1_order_51 : decode cX1_order 51 = .ok (.iload_n 3, 1) := by decide +kernel
theorem dX1_order_52 : decode cX1_order 52 = .ok (.aload_n 0, 1) := by decide +kernel
theorem dX1_order_53 : decode cX1_order 53 = .ok (.getfield 374, 3) := by decide +kernel
theorem dX1_order_56 : decode cX1_order 56 = .ok (.if_icmp .ge 58, 3) := by decide +kernel
theorem dX1_order_59 : decode cX1_order 59 = .ok (.aload_n 0, 1) := by decide +kernel
theorem dX1_order_60 : decode cX1_order 60 = .ok (.getfield 93, 3) := by decide +kernel
theorem dX1_order_63 : decode cX1_order 63 = .ok (.iload_n 3, 1) := by decide +kernel
theorem dX1_order_64 : decode cX1_order 64 = .ok (.aaload, 1) := by decide +kernel
theorem dX1_order_65 : decode cX1_order 65 = .ok (.ifnonnull 28, 3) := by decide +kernel
theorem dX1_order_68 : decode cX1_order 68 = .ok (.aload_n 0, 1) := by decide +kernel
theorem dX1_order_69 : decode cX1_order 69 = .ok (.getfield 93, 3) := by decide +kernel
theorem dX1_order_72 : decode cX1_order 72 = .ok (.iload_n 3, 1) := by decide +kernel
theorem dX1_order_73 : decode cX1_order 73 = .ok (.new 91, 3) := by decide +kernel
theorem dX1_order_76 : decode cX1_order 76 = .ok (.dup, 1) := by decide +kernel
theorem dX1_order_77 : decode cX1_order 77 = .ok (.aload_n 0, 1) := by decide +kernel
theorem dX1_order_78 : decode cX1_order 78 = .ok (.getfield 79, 3) := by decide +kernel
theorem dX1_order_81 : decode cX1_order 81 = .ok (.iload_n 3, 1) := by decide +kernel
theorem dX1_order_82 : decode cX1_order 82 = .ok (.iaload, 1) := by decide +kernel
theorem dX1_order_83 : decode cX1_order 83 = .ok (.aload_n 0, 1) := by decide +kernel
theorem dX1_order_84 : decode cX1_order 84 = .ok (.getfield 82, 3) := by decide +kernel
theorem dX1_order_87 : decode cX1_order 87 = .ok (.iload_n 3, 1) := by decide +kernel
theorem dX1_order_88 : decode cX1_order 88 = .ok (.iaload, 1) := by decide +kernel
theorem dX1_order_89 : decode cX1_order 89 = .ok (.invokespecial 159, 3) := by decide +kernel
theorem dX1_order_92 : decode cX1_order 92 = .ok (.aastore, 1) := by decide +kernel
theorem dX1_order_93 : decode cX1_order 93 = .ok (.aload_n 0, 1) := by decide +kernel
theorem dX1_order_94 : decode cX1_order 94 = .ok (.getfield 98, 3) := by decide +kernel
theorem dX1_order_97 : decode cX1_order 97 = .ok (.getfield 156, 3) := by decide +kernel
theorem dX1_order_100 : decode cX1_order 100 = .ok (.iload_n 3, 1) := by decide +kernel
theorem dX1_order_101 : decode cX1_order 101 = .ok (.aload_n 0, 1) := by decide +kernel
theorem dX1_order_102 : decode cX1_order 102 = .ok (.getfield 93, 3) := by decide +kernel
theorem dX1_order_105 : decode cX1_order 105 = .ok (.iload_n 3, 1) := by decide +kernel
theorem dX1_order_106 : decode cX1_order 106 = .ok (.aaload, 1) := by decide +kernel
theorem dX1_order_107 : decode cX1_order 107 = .ok (.aastore, 1) := by decide +kernel
theorem dX1_order_108 : decode cX1_order 108 = .ok (.iinc 3 1, 3) := by decide +kernel
theorem dX1_order_111 : decode cX1_order 111 = .ok (.goto (-60), 3) := by decide +kernel
theorem dX1_order_114 : decode cX1_order 114 = .ok (.aload_n 0, 1) := by decide +kernel
theorem dX1_order_115 : decode cX1_order 115 = .ok (.iconst (-1), 1) := by decide +kernel
theorem dX1_order_116 : decode cX1_order 116 = .ok (.putfield 380, 3) := by decide +kernel
theorem dX1_order_119 : decode cX1_order 119 = .ok (.aload_n 0, 1) := by decide +kernel
theorem dX1_order_120 : decode cX1_order 120 = .ok (.iconst 0, 1) := by decide +kernel
theorem dX1_order_121 : decode cX1_order 121 = .ok (.iconst 0, 1) := by decide +kernel
theorem dX1_order_122 : decode cX1_order 122 = .ok (.iload_n 1, 1) := by decide +kernel
theorem dX1_order_123 : decode cX1_order 123 = .ok (.invokevirtual 389, 3) := by decide +kernel
theorem dX1_order_126 : decode cX1_order 126 = .ok (.iload_n 2, 1) := by decide +kernel
theorem dX1_order_127 : decode cX1_order 127 = .ok (.iconst (-1), 1) := by decide +kernel
theorem dX1_order_128 : decode cX1_order 128 = .ok (.if_icmp .ne 10, 3) := by decide +kernel
theorem dX1_order_131 : decode cX1_order 131 = .ok (.aload_n 0, 1) := by decide +kernel
theorem dX1_order_132 : decode cX1_order 132 = .ok (.getfield 380, 3) := by decide +kernel
theorem dX1_order_135 : decode cX1_order 135 = .ok (.goto 9, 3) := by decide +kernel
theorem dX1_order_138 : decode cX1_order 138 = .ok (.aload_n 0, 1) := by decide +kernel
theorem dX1_order_139 : decode cX1_order 139 = .ok (.getfield 88, 3) := by decide +kernel
theorem dX1_order_142 : decode cX1_order 142 = .ok (.iload_n 2, 1) := by decide +kernel
theorem dX1_order_143 : decode cX1_order 143 = .ok (.iaload, 1) := by decide +kernel
theorem dX1_order_144 : decode cX1_order 144 = .ok (.ireturn, 1) := by decide +kernel
section
variable {p : Program} {l : Launch} {e : Env} {s : State} {m : MethodId} {args : Array Value} {below : List Frame} {meth : Method} {c : Code} {D : gD} {A : Nat → Prop} {ad : Nat → Nat} {τ : Shp} {σ : Mem}
set_option maxRecDepth 100000 in
set_option maxHeartbeats 4000000 in
theorem w_X1_order_L51 (Z : Cz D (Ew D A) A cX1_order 4 (some .int) RX1 p s m args meth c) (hex : c.exceptionTable.toList.map (fun h => (h.startPc, h.endPc, h.handlerPc, h.catchType)) = []) {u1 : Int32} {u2 : Int32} {r : (Rs Int32)} {k114 : Mem → Shp → Option (Rs Int32)}
    (hk114 : ∀ (σ : Mem) (τ1 : Shp)  (ad1 : Nat → Nat) (cl sl : Nat) (H : Heap) (locs : List Loc) (ls : Array Slot), Gx τ ad τ1 ad1 → ∀ (_ : sS τ1 0 = (10, 0)), St D A ad1 (sS τ1) σ s.heap H locs → Bd (sC τ) (sL τ) (rmA 57 1272 τ) τ1 cl sl → lv_has ls 4 [(0, .ref (ad1 0)), (1, .int u1), (2, .int u2)] → k114 σ τ1 = some r → W p l e (rmA 57 1272 τ) s m args below meth c H locs cl sl (GQ below (QR D A ad τ vI r) args s A) (F0 m 114 ls [])) :
    ∀ (n : Nat) (σ : Mem) (τ1 : Shp) (v3 : Int32) (ad1 : Nat → Nat) (cl sl : Nat) (H : Heap) (locs : List Loc) (ls : Array Slot), Gx τ ad τ1 ad1 → ∀ (hu0 : sS τ1 0 = (10, 0)), St D A ad1 (sS τ1) σ s.heap H locs → Bd (sC τ) (sL τ) (rmA 57 1272 τ) τ1 cl sl → lv_has ls 4 [(0, .ref (ad1 0)), (1, .int u1), (2, .int u2), (3, .int v3)] → f_X1_order_L51 k114 u1 u2 n σ τ1 v3 = some r → W p l e (rmA 57 1272 τ) s m args below meth c H locs cl sl (GQ below (QR D A ad τ vI r) args s A) (F0 m 51 ls []) := by
  have hx := Z.1
  have hb := Z.2.1
  have hown := Z.2.2.2.2.2.1
  have hts := Z.2.2.2.2.2.2.1
  intro n
  induction n with
  | zero => intro σ τ1 v3 ad1 cl sl H locs ls G hu0 hS B hl h; cases h
  | succ n ih =>
    intro σ τ1 v3 ad1 cl sl H locs ls G hu0 hS B hl h
    unfold f_X1_order_L51 at h
    refine lv_iload_n hx hb dX1_order_51 rfl (lv_at hl 3 rfl) ?_
    refine lv_aload_n hx hb dX1_order_52 rfl (lv_at hl 0 rfl) ?_
    refine h_getI Z hS cls_0 hu0 (by decide) rfl fl_X1_374_0 dX1_order_53 h (fun x8 h => ?_)
    refine lv_icmp_ge (tgt := 114) hx hb dX1_order_56 (by decide) (fun c9 => ?_) (fun c9 => ?_)
    · have h := if_t h c9
      exact hk114 _ _ _ _ _ _ _ _ G hu0 hS B (lv_sub hl [0, 1, 2] rfl) h
    · have h := if_f h c9
      refine lv_aload_n hx hb dX1_order_59 rfl (lv_at hl 0 rfl) ?_
      refine h_getC (n := 29) (j := 29) (sh := (6, 6)) Z hS cls_0 hu0 (by decide) rfl rfl rfl fl_X1_93_0 dX1_order_60 (fun hc10 => ?_)
      refine lv_iload_n hx hb dX1_order_63 rfl (lv_at hl 3 rfl) ?_
      refine h_aldQ Z hS hc10 (by decide) (by decide) dX1_order_64 h (fun o11 ho11 h => ?_)
      refine h_ifnonnull (o := o11) (tgt := 93) Z dX1_order_65 (by decide) (fun eo11 => ?_) (fun j12 eo11 => ?_)
      · subst eo11
        refine lv_aload_n hx hb dX1_order_68 rfl (lv_at hl 0 rfl) ?_
        refine h_getC (n := 29) (j := 29) (sh := (6, 6)) Z hS cls_0 hu0 (by decide) rfl rfl rfl fl_X1_93_0 dX1_order_69 (fun hc13 => ?_)
        refine lv_iload_n hx hb dX1_order_72 rfl (lv_at hl 3 rfl) ?_
        refine a_newO (z := 1) (j := (2000 + 10 * (v3).toNatClampNeg)) Z hS B cls_4 dv_4 (fun z => by cases z) q140 q372 q82 dX1_order_73 h (fun ad14 σ14 τ14 H ga gb gc hn15 _ hS B h => ?_)
        have g14 : Gx τ1 ad1 τ14 ad14 := ⟨ga, gb, gc⟩
        have G := G.trans g14
        generalize cl + 1 = cl at B ⊢
        generalize sl + 5 = sl at B ⊢
        have ea16 := g14.ad hu0
        replace hu0 := g14.sh hu0
        have ea17 := g14.ad hc13
        replace hc13 := g14.sha hc13 (by decide)
        replace hl : lv_has ls 4 [(0, .ref (ad14 0)), (1, .int u1), (2, .int u2), (3, .int v3)] := by rw [ea16]; exact hl
        refine W_stk (st' := [.ref (ad14 (2000 + 10 * (v3).toNatClampNeg)), .int v3, .ref (ad14 29)]) (by first | (rw [ea17]; done) | (rw [ea17]; rfl)) ?_
        refine lv_dup hx hb dX1_order_76 rfl ?_
        refine lv_aload_n hx hb dX1_order_77 rfl (lv_at hl 0 rfl) ?_
        refine h_getC (n := 23) (j := 23) (sh := (1, 6)) Z hS cls_0 hu0 (by decide) rfl rfl rfl fl_X1_79_0 dX1_order_78 (fun hc18 => ?_)
        refine lv_iload_n hx hb dX1_order_81 rfl (lv_at hl 3 rfl) ?_
        refine h_iald Z hS hc18 dX1_order_82 h (fun x19 h => ?_)
        refine lv_aload_n hx hb dX1_order_83 rfl (lv_at hl 0 rfl) ?_
        refine h_getC (n := 24) (j := 24) (sh := (1, 6)) Z hS cls_0 hu0 (by decide) rfl rfl rfl fl_X1_82_0 dX1_order_84 (fun hc20 => ?_)
        refine lv_iload_n hx hb dX1_order_87 rfl (lv_at hl 3 rfl) ?_
        refine h_iald Z hS hc20 dX1_order_88 h (fun x21 h => ?_)
        refine a_call (av := [.ref (ad14 (2000 + 10 * (v3).toNatClampNeg)), .int x19, .int x21]) (rest := [.ref (ad14 (2000 + 10 * (v3).toNatClampNeg)), .int v3, .ref (ad14 29)]) Z hex hS B G (en_I (rest := [.ref (ad14 (2000 + 10 * (v3).toNatClampNeg)), .int v3, .ref (ad14 29)]) Z vc_X1_159 rfl rfl dX1_order_89) q375 ⟨Nat.le_of_ble_eq_true rfl, Nat.le_of_ble_eq_true rfl⟩ hl.1 (Nat.le_of_ble_eq_true rfl) dX1_order_89 h (fun z hz => w_X7_init B.2.2.2.2.1 B.2.2.2.2.2 hn15 hz) (fun σ22 τ22 _ ad22 H locs cl sl g22 hS B h => ?_)
        have G := G.trans g22
        have eb23 := g22.ad hn15
        obtain ⟨hk23, h⟩ := gd_el h
        replace hk23 := isSh_1 hk23
        have ea24 := g22.ad hu0
        replace hu0 := g22.sh hu0
        have ea25 := g22.ad hc13
        replace hc13 := g22.sha hc13 (by decide)
        replace hl : lv_has ls 4 [(0, .ref (ad22 0)), (1, .int u1), (2, .int u2), (3, .int v3)] := by rw [ea24]; exact hl
        refine W_stk (st' := [.ref (ad22 (2000 + 10 * (v3).toNatClampNeg)), .int v3, .ref (ad22 29)]) (by first | (rw [eb23, ea25]; done) | (rw [eb23, ea25]; rfl)) ?_
        refine h_aast Z hS hc13 (by decide) (by decide) hk23 dX1_order_92 h (fun σ26 H locs hS h => ?_)
        refine lv_aload_n hx hb dX1_order_93 rfl (lv_at hl 0 rfl) ?_
        refine h_getC (n := 110) (j := 110) (sh := (12, 0)) Z hS cls_0 hu0 (by decide) rfl rfl rfl fl_X1_98_0 dX1_order_94 (fun hc27 => ?_)
        refine h_getC (n := 1) (j := 111) (sh := (6, 10)) Z hS cls_2 hc27 (by decide) rfl rfl rfl fl_X1_156_2 dX1_order_97 (fun hc28 => ?_)
        refine lv_iload_n hx hb dX1_order_100 rfl (lv_at hl 3 rfl) ?_
        refine lv_aload_n hx hb dX1_order_101 rfl (lv_at hl 0 rfl) ?_
        refine h_getC (n := 29) (j := 29) (sh := (6, 6)) Z hS cls_0 hu0 (by decide) rfl rfl rfl fl_X1_93_0 dX1_order_102 (fun hc29 => ?_)
        refine lv_iload_n hx hb dX1_order_105 rfl (lv_at hl 3 rfl) ?_
        refine h_aldN (sh := (14, 0)) Z hS hc29 (by decide) (by decide) rfl dX1_order_106 h (fun j30 hj30 h => ?_)
        refine h_aast Z hS hc28 (by decide) (by decide) hj30 dX1_order_107 h (fun σ31 H locs hS h => ?_)
        refine lv_iinc (v := (v3 + (1 : Int32))) (lv' := [(3, .int (v3 + (1 : Int32))), (0, .ref (ad22 0)), (1, .int u1), (2, .int u2)]) hx hb dX1_order_108 hl (k := 3) rfl rfl (by decide) rfl (fun ls hl => ?_)
        refine lv_goto (tgt := 51) hx hb dX1_order_111 (by decide) ?_
        exact ih _ _ _ _ _ _ _ _ _ G hu0 hS B (lv_sub hl [1, 2, 3, 0] rfl) h
      · subst eo11
        have hj12 := ho11 j12 rfl
        refine lv_aload_n hx hb dX1_order_93 rfl (lv_at hl 0 rfl) ?_
        refine h_getC (n := 110) (j := 110) (sh := (12, 0)) Z hS cls_0 hu0 (by decide) rfl rfl rfl fl_X1_98_0 dX1_order_94 (fun hc32 => ?_)
        refine h_getC (n := 1) (j := 111) (sh := (6, 10)) Z hS cls_2 hc32 (by decide) rfl rfl rfl fl_X1_156_2 dX1_order_97 (fun hc33 => ?_)
        refine lv_iload_n hx hb dX1_order_100 rfl (lv_at hl 3 rfl) ?_
        refine lv_aload_n hx hb dX1_order_101 rfl (lv_at hl 0 rfl) ?_
        refine h_getC (n := 29) (j := 29) (sh := (6, 6)) Z hS cls_0 hu0 (by decide) rfl rfl rfl fl_X1_93_0 dX1_order_102 (fun hc34 => ?_)
        refine lv_iload_n hx hb dX1_order_105 rfl (lv_at hl 3 rfl) ?_
        refine h_aldN (sh := (14, 0)) Z hS hc34 (by decide) (by decide) rfl dX1_order_106 h (fun j35 hj35 h => ?_)
        refine h_aast Z hS hc33 (by decide) (by decide) hj35 dX1_order_107 h (fun σ36 H locs hS h => ?_)
        refine lv_iinc (v := (v3 + (1 : Int32))) (lv' := [(3, .int (v3 + (1 : Int32))), (0, .ref (ad1 0)), (1, .int u1), (2, .int u2)]) hx hb dX1_order_108 hl (k := 3) rfl rfl (by decide) rfl (fun ls hl => ?_)
        refine lv_goto (tgt := 51) hx hb dX1_order_111 (by decide) ?_
        exact ih _ _ _ _ _ _ _ _ _ G hu0 hS B (lv_sub hl [1, 2, 3, 0] rfl) h
set_option maxRecDepth 100000 in
set_option maxHeartbeats 4000000 in
theorem w_X1_order {a1 : Int32} {a2 : Int32} (hc0 : sC τ ≤ LCl) (hs0 : sL τ ≤ LSl) (hi0 : sS τ 0 = (10, 0)) {r : (Rs Int32)} (h : f_X1_order σ τ a1 a2 = some r) : Mg l yX1_order (ws_ yX1_order cX1_order 4 (some .int)) (rmA 57 1272 τ) (va_Pc [.ref (ad 0), .int a1, .int a2] (PreG D (Ew D A) A ad (sS τ) σ)) (QR D A ad τ vI r) A := by
  refine a_met hc0 hs0 (by decide) (Nat.le_of_ble_eq_true rfl) (fun p e s m args below meth c ls Z hnm hex hS B G hl => ?_)
  have hx := Z.1
  have hb := Z.2.1
  have hown := Z.2.2.2.2.2.1
  have hts := Z.2.2.2.2.2.2.1
  refine (?_ : ∀ cl sl, Bd (sC τ) (sL τ) (rmA 57 1272 τ) τ cl sl → W p l e (rmA 57 1272 τ) s m args below meth c s.heap [] cl sl (GQ below (QR D A ad τ vI r) args s A) (F0 m 0 ls [])) 0 0 B
  clear B
  intro cl sl B
  unfold f_X1_order at h
  refine lv_iload_n hx hb dX1_order_0 rfl (lv_at hl 1 rfl) ?_
  refine lv_i2l hx hb dX1_order_1 rfl ?_
  refine lv_lconst (v := (0 : Int64)) hx hb dX1_order_2 (by decide) ?_
  refine lv_ldc2 (v := (1000000 : Int64)) hx hb hown (hts _ q943) dX1_order_3 ?_
  refine h_ci hS h (fun z hz => h_rS (rest := []) Z hS v_X1_5 (w_X1_isIn hz) rfl rfl ⟨Nat.le_of_ble_eq_true rfl, Nat.le_of_ble_eq_true rfl⟩ rfl hl.1 rfl (Nat.le_of_ble_eq_true rfl) B.cl B.sl dX1_order_6) (fun x1 H locs hS h => ?_)
  refine lv_if_eq (tgt := 47) hx hb dX1_order_9 (by decide) (fun c2 => ?_) (fun c2 => ?_)
  · have h := if_t h c2
    refine lv_iconst (v := (-1 : Int32)) hx hb dX1_order_47 (by decide) ?_
    exact a_iret Z hS B G dX1_order_48 h
  · have h := if_f h c2
    refine lv_aload_n hx hb dX1_order_12 rfl (lv_at hl 0 rfl) ?_
    refine h_getI Z hS cls_0 hi0 (by decide) rfl fl_X1_374_0 dX1_order_13 h (fun x3 h => ?_)
    refine lv_if_eq (tgt := 47) hx hb dX1_order_16 (by decide) (fun c4 => ?_) (fun c4 => ?_)
    · have h := if_t h c4
      refine lv_iconst (v := (-1 : Int32)) hx hb dX1_order_47 (by decide) ?_
      exact a_iret Z hS B G dX1_order_48 h
    · have h := if_f h c4
      refine lv_aload_n hx hb dX1_order_19 rfl (lv_at hl 0 rfl) ?_
      refine h_getI Z hS cls_0 hi0 (by decide) rfl fl_X1_294_0 dX1_order_20 h (fun x5 h => ?_)
      refine lv_if_eq (tgt := 47) hx hb dX1_order_23 (by decide) (fun c6 => ?_) (fun c6 => ?_)
      · have h := if_t h c6
        refine lv_iconst (v := (-1 : Int32)) hx hb dX1_order_47 (by decide) ?_
        exact a_iret Z hS B G dX1_order_48 h
      · have h := if_f h c6
        refine lv_iload_n hx hb dX1_order_26 rfl (lv_at hl 2 rfl) ?_
        refine lv_iconst (v := (-1 : Int32)) hx hb dX1_order_27 (by decide) ?_
        refine lv_icmp_eq (tgt := 49) hx hb dX1_order_28 (by decide) (fun c7 => ?_) (fun c7 => ?_)
        · have h := if_t h c7
          refine lv_iconst (v := (0 : Int32)) hx hb dX1_order_49 (by decide) ?_
          refine lv_istore_n (lv' := [(3, .int (0 : Int32)), (0, .ref (ad 0)), (1, .int a1), (2, .int a2)]) hx hb dX1_order_50 rfl hl (by decide) rfl (fun ls hl => ?_)
          refine w_X1_order_L51 Z hex (fun σ37 τ37 ad37 cl sl H locs ls G hi0 hS B hl h => ?_) FU _ _ _ _ _ _ _ _ _ G hi0 hS B (lv_sub hl [1, 2, 3, 0] rfl) h
          refine lv_aload_n hx hb dX1_order_114 rfl (lv_at hl 0 rfl) ?_
          refine lv_iconst (v := (-1 : Int32)) hx hb dX1_order_115 (by decide) ?_
          refine h_putI Z hS cls_0 hi0 (by decide) rfl rfl rfl fl_X1_380_0 dX1_order_116 h (fun σ38 H locs hS h => ?_)
          refine lv_aload_n hx hb dX1_order_119 rfl (lv_at hl 0 rfl) ?_
          refine lv_iconst (v := (0 : Int32)) hx hb dX1_order_120 (by decide) ?_
          refine lv_iconst (v := (0 : Int32)) hx hb dX1_order_121 (by decide) ?_
          refine lv_iload_n hx hb dX1_order_122 rfl (lv_at hl 1 rfl) ?_
          refine h_cm hS h (fun z hz => h_rV (rest := []) Z hS hi0 rfl v_X1_389 (w_X1_tryLayers hi0 8 _ _ _ _ _ hz) rfl rfl ⟨Nat.le_of_ble_eq_true rfl, Nat.le_of_ble_eq_true rfl⟩ rfl hl.1 rfl (Nat.le_of_ble_eq_true rfl) B.cl B.sl dX1_order_123) (fun σ39 H locs hS h => ?_)
          refine lv_iload_n hx hb dX1_order_126 rfl (lv_at hl 2 rfl) ?_
          refine lv_iconst (v := (-1 : Int32)) hx hb dX1_order_127 (by decide) ?_
          refine lv_icmp_ne (tgt := 138) hx hb dX1_order_128 (by decide) (fun c40 => ?_) (fun c40 => ?_)
          · have h := if_f h c40
            refine lv_aload_n hx hb dX1_order_138 rfl (lv_at hl 0 rfl) ?_
            refine h_getC (n := 26) (j := 26) (sh := (1, 6)) Z hS cls_0 hi0 (by decide) rfl rfl rfl fl_X1_88_0 dX1_order_139 (fun hc42 => ?_)
            refine lv_iload_n hx hb dX1_order_142 rfl (lv_at hl 2 rfl) ?_
            refine h_iald Z hS hc42 dX1_order_143 h (fun x43 h => ?_)
            exact a_iret Z hS B G dX1_order_144 h
          · have h := if_t h c40
            refine lv_aload_n hx hb dX1_order_131 rfl (lv_at hl 0 rfl) ?_
            refine h_getI Z hS cls_0 hi0 (by decide) rfl fl_X1_380_0 dX1_order_132 h (fun x41 h => ?_)
            refine lv_goto (tgt := 144) hx hb dX1_order_135 (by decide) ?_
            exact a_iret Z hS B G dX1_order_144 h
        · have h := if_f h c7
          refine lv_iload_n hx hb dX1_order_31 rfl (lv_at hl 2 rfl) ?_
          refine lv_i2l hx hb dX1_order_32 rfl ?_
          refine lv_lconst (v := (0 : Int64)) hx hb dX1_order_33 (by decide) ?_
          refine lv_aload_n hx hb dX1_order_34 rfl (lv_at hl 0 rfl) ?_
          refine h_getI Z hS cls_0 hi0 (by decide) rfl fl_X1_374_0 dX1_order_35 h (fun x44 h => ?_)
          refine lv_iconst (v := (1 : Int32)) hx hb dX1_order_38 (by decide) ?_
          refine lv_isub hx hb dX1_order_39 ?_
          refine lv_i2l hx hb dX1_order_40 rfl ?_
          refine h_ci hS h (fun z hz => h_rS (rest := []) Z hS v_X1_5 (w_X1_isIn hz) rfl rfl ⟨Nat.le_of_ble_eq_true rfl, Nat.le_of_ble_eq_true rfl⟩ rfl hl.1 rfl (Nat.le_of_ble_eq_true rfl) B.cl B.sl dX1_order_41) (fun x45 H locs hS h => ?_)
          refine lv_if_ne (tgt := 49) hx hb dX1_order_44 (by decide) (fun c46 => ?_) (fun c46 => ?_)
          · have h := if_f h c46
            refine lv_iconst (v := (0 : Int32)) hx hb dX1_order_49 (by decide) ?_
            refine lv_istore_n (lv' := [(3, .int (0 : Int32)), (0, .ref (ad 0)), (1, .int a1), (2, .int a2)]) hx hb dX1_order_50 rfl hl (by decide) rfl (fun ls hl => ?_)
            refine w_X1_order_L51 Z hex (fun σ76 τ76 ad76 cl sl H locs ls G hi0 hS B hl h => ?_) FU _ _ _ _ _ _ _ _ _ G hi0 hS B (lv_sub hl [1, 2, 3, 0] rfl) h
            refine lv_aload_n hx hb dX1_order_114 rfl (lv_at hl 0 rfl) ?_
            refine lv_iconst (v := (-1 : Int32)) hx hb dX1_order_115 (by decide) ?_
            refine h_putI Z hS cls_0 hi0 (by decide) rfl rfl rfl fl_X1_380_0 dX1_order_116 h (fun σ77 H locs hS h => ?_)
            refine lv_aload_n hx hb dX1_order_119 rfl (lv_at hl 0 rfl) ?_
            refine lv_iconst (v := (0 : Int32)) hx hb dX1_order_120 (by decide) ?_
            refine lv_iconst (v := (0 : Int32)) hx hb dX1_order_121 (by decide) ?_
            refine lv_iload_n hx hb dX1_order_122 rfl (lv_at hl 1 rfl) ?_
            refine h_cm hS h (fun z hz => h_rV (rest := []) Z hS hi0 rfl v_X1_389 (w_X1_tryLayers hi0 8 _ _ _ _ _ hz) rfl rfl ⟨Nat.le_of_ble_eq_true rfl, Nat.le_of_ble_eq_true rfl⟩ rfl hl.1 rfl (Nat.le_of_ble_eq_true rfl) B.cl B.sl dX1_order_123) (fun σ78 H locs hS h => ?_)
            refine lv_iload_n hx hb dX1_order_126 rfl (lv_at hl 2 rfl) ?_
            refine lv_iconst (v := (-1 : Int32)) hx hb dX1_order_127 (by decide) ?_
            refine lv_icmp_ne (tgt := 138) hx hb dX1_order_128 (by decide) (fun c79 => ?_) (fun c79 => ?_)
            · have h := if_f h c79
              refine lv_aload_n hx hb dX1_order_138 rfl (lv_at hl 0 rfl) ?_
              refine h_getC (n := 26) (j := 26) (sh := (1, 6)) Z hS cls_0 hi0 (by decide) rfl rfl rfl fl_X1_88_0 dX1_order_139 (fun hc81 => ?_)
              refine lv_iload_n hx hb dX1_order_142 rfl (lv_at hl 2 rfl) ?_
              refine h_iald Z hS hc81 dX1_order_143 h (fun x82 h => ?_)
              exact a_iret Z hS B G dX1_order_144 h
            · have h := if_t h c79
              refine lv_aload_n hx hb dX1_order_131 rfl (lv_at hl 0 rfl) ?_
              refine h_getI Z hS cls_0 hi0 (by decide) rfl fl_X1_380_0 dX1_order_132 h (fun x80 h => ?_)
              refine lv_goto (tgt := 144) hx hb dX1_order_135 (by decide) ?_
              exact a_iret Z hS B G dX1_order_144 h
          · have h := if_t h c46
            refine lv_iconst (v := (-1 : Int32)) hx hb dX1_order_47 (by decide) ?_
            exact a_iret Z hS B G dX1_order_48 h
end
