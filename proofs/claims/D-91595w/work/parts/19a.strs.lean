set_option maxRecDepth 100000
theorem dJ1_indexOf_0 : decode cJ1_indexOf 0 = .ok (.aload_n 0, 1) := by decide +kernel
theorem dJ1_indexOf_1 : decode cJ1_indexOf 1 = .ok (.iload_n 1, 1) := by decide +kernel
theorem dJ1_indexOf_2 : decode cJ1_indexOf 2 = .ok (.iconst 0, 1) := by decide +kernel
theorem dJ1_indexOf_3 : decode cJ1_indexOf 3 = .ok (.invokevirtual 633, 3) := by decide +kernel
theorem dJ1_indexOf_6 : decode cJ1_indexOf 6 = .ok (.ireturn, 1) := by decide +kernel
theorem dJ1_indexOf_2_0 : decode cJ1_indexOf_2 0 = .ok (.aload_n 0, 1) := by decide +kernel
theorem dJ1_indexOf_2_1 : decode cJ1_indexOf_2 1 = .ok (.invokevirtual 492, 3) := by decide +kernel
theorem dJ1_indexOf_2_4 : decode cJ1_indexOf_2 4 = .ok (.ifCond .eq 19, 3) := by decide +kernel
theorem dJ1_indexOf_2_7 : decode cJ1_indexOf_2 7 = .ok (.aload_n 0, 1) := by decide +kernel
theorem dJ1_indexOf_2_8 : decode cJ1_indexOf_2 8 = .ok (.getfield 9, 3) := by decide +kernel
theorem dJ1_indexOf_2_11 : decode cJ1_indexOf_2 11 = .ok (.iload_n 1, 1) := by decide +kernel
theorem dJ1_indexOf_2_12 : decode cJ1_indexOf_2 12 = .ok (.iload_n 2, 1) := by decide +kernel
theorem dJ1_indexOf_2_13 : decode cJ1_indexOf_2 13 = .ok (.aload_n 0, 1) := by decide +kernel
theorem dJ1_indexOf_2_14 : decode cJ1_indexOf_2 14 = .ok (.invokevirtual 505, 3) := by decide +kernel
theorem dJ1_indexOf_2_17 : decode cJ1_indexOf_2 17 = .ok (.invokestatic 637, 3) := by decide +kernel
theorem dJ1_indexOf_2_20 : decode cJ1_indexOf_2 20 = .ok (.goto 16, 3) := by decide +kernel
theorem dJ1_indexOf_2_23 : decode cJ1_indexOf_2 23 = .ok (.aload_n 0, 1) := by decide +kernel
theorem dJ1_indexOf_2_24 : decode cJ1_indexOf_2 24 = .ok (.getfield 9, 3) := by decide +kernel
theorem dJ1_indexOf_2_27 : decode cJ1_indexOf_2 27 = .ok (.iload_n 1, 1) := by decide +kernel
theorem dJ1_indexOf_2_28 : decode cJ1_indexOf_2 28 = .ok (.iload_n 2, 1) := by decide +kernel
theorem dJ1_indexOf_2_29 : decode cJ1_indexOf_2 29 = .ok (.aload_n 0, 1) := by decide +kernel
theorem dJ1_indexOf_2_30 : decode cJ1_indexOf_2 30 = .ok (.invokevirtual 505, 3) := by decide +kernel
theorem dJ1_indexOf_2_33 : decode cJ1_indexOf_2 33 = .ok (.invokestatic 640, 3) := by decide +kernel
theorem dJ1_indexOf_2_36 : decode cJ1_indexOf_2 36 = .ok (.ireturn, 1) := by decide +kernel
theorem dJ1_isLatin1_0 : decode cJ1_isLatin1 0 = .ok (.getstatic 38, 3) := by decide +kernel
theorem dJ1_isLatin1_3 : decode cJ1_isLatin1 3 = .ok (.ifCond .eq 14, 3) := by decide +kernel
theorem dJ1_isLatin1_6 : decode cJ1_isLatin1 6 = .ok (.aload_n 0, 1) := by decide +kernel
theorem dJ1_isLatin1_7 : decode cJ1_isLatin1 7 = .ok (.getfield 15, 3) := by decide +kernel
theorem dJ1_isLatin1_10 : decode cJ1_isLatin1 10 = .ok (.ifCond .ne 7, 3) := by decide +kernel
theorem dJ1_isLatin1_13 : decode cJ1_isLatin1 13 = .ok (.iconst 1, 1) := by decide +kernel
theorem dJ1_isLatin1_14 : decode cJ1_isLatin1 14 = .ok (.goto 4, 3) := by decide +kernel
theorem dJ1_isLatin1_17 : decode cJ1_isLatin1 17 = .ok (.iconst 0, 1) := by decide +kernel
theorem dJ1_isLatin1_18 : decode cJ1_isLatin1 18 = .ok (.ireturn, 1) := by decide +kernel
theorem dJ1_coder_0 : decode cJ1_coder 0 = .ok (.getstatic 38, 3) := by decide +kernel
theorem dJ1_coder_3 : decode cJ1_coder 3 = .ok (.ifCond .eq 10, 3) := by decide +kernel
theorem dJ1_coder_6 : decode cJ1_coder 6 = .ok (.aload_n 0, 1) := by decide +kernel
theorem dJ1_coder_7 : decode cJ1_coder 7 = .ok (.getfield 15, 3) := by decide +kernel
theorem dJ1_coder_10 : decode cJ1_coder 10 = .ok (.goto 4, 3) := by decide +kernel
theorem dJ1_coder_13 : decode cJ1_coder 13 = .ok (.iconst 1, 1) := by decide +kernel
theorem dJ1_coder_14 : decode cJ1_coder 14 = .ok (.ireturn, 1) := by decide +kernel
theorem dJ1_length_0 : decode cJ1_length 0 = .ok (.aload_n 0, 1) := by decide +kernel
theorem dJ1_length_1 : decode cJ1_length 1 = .ok (.getfield 9, 3) := by decide +kernel
theorem dJ1_length_4 : decode cJ1_length 4 = .ok (.arraylength, 1) := by decide +kernel
theorem dJ1_length_5 : decode cJ1_length 5 = .ok (.aload_n 0, 1) := by decide +kernel
theorem dJ1_length_6 : decode cJ1_length 6 = .ok (.invokevirtual 335, 3) := by decide +kernel
theorem dJ1_length_9 : decode cJ1_length 9 = .ok (.ishr, 1) := by decide +kernel
theorem dJ1_length_10 : decode cJ1_length 10 = .ok (.ireturn, 1) := by decide +kernel
theorem dJ2_indexOf_0 : decode cJ2_indexOf 0 = .ok (.iload_n 1, 1) := by decide +kernel
theorem dJ2_indexOf_1 : decode cJ2_indexOf 1 = .ok (.invokestatic 88, 3) := by decide +kernel
theorem dJ2_indexOf_4 : decode cJ2_indexOf 4 = .ok (.ifCond .ne 5, 3) := by decide +kernel
theorem dJ2_indexOf_7 : decode cJ2_indexOf 7 = .ok (.iconst (-1), 1) := by decide +kernel
theorem dJ2_indexOf_8 : decode cJ2_indexOf 8 = .ok (.ireturn, 1) := by decide +kernel
theorem dJ2_indexOf_9 : decode cJ2_indexOf 9 = .ok (.iload_n 2, 1) := by decide +kernel
theorem dJ2_indexOf_10 : decode cJ2_indexOf 10 = .ok (.iconst 0, 1) := by decide +kernel
theorem dJ2_indexOf_11 : decode cJ2_indexOf 11 = .ok (.invokestatic 92, 3) := by decide +kernel
theorem dJ2_indexOf_14 : decode cJ2_indexOf 14 = .ok (.istore_n 2, 1) := by decide +kernel
theorem dJ2_indexOf_15 : decode cJ2_indexOf 15 = .ok (.iload_n 3, 1) := by decide +kernel
theorem dJ2_indexOf_16 : decode cJ2_indexOf 16 = .ok (.aload_n 0, 1) := by decide +kernel
theorem dJ2_indexOf_17 : decode cJ2_indexOf 17 = .ok (.arraylength, 1) := by decide +kernel
theorem dJ2_indexOf_18 : decode cJ2_indexOf 18 = .ok (.invokestatic 38, 3) := by decide +kernel
theorem dJ2_indexOf_21 : decode cJ2_indexOf 21 = .ok (.istore_n 3, 1) := by decide +kernel
theorem dJ2_indexOf_22 : decode cJ2_indexOf 22 = .ok (.iload_n 2, 1) := by decide +kernel
theorem dJ2_indexOf_23 : decode cJ2_indexOf 23 = .ok (.iload_n 3, 1) := by decide +kernel
theorem dJ2_indexOf_24 : decode cJ2_indexOf 24 = .ok (.if_icmp .lt 5, 3) := by decide +kernel
theorem dJ2_indexOf_27 : decode cJ2_indexOf 27 = .ok (.iconst (-1), 1) := by decide +kernel
theorem dJ2_indexOf_28 : decode cJ2_indexOf 28 = .ok (.ireturn, 1) := by decide +kernel
theorem dJ2_indexOf_29 : decode cJ2_indexOf 29 = .ok (.aload_n 0, 1) := by decide +kernel
theorem dJ2_indexOf_30 : decode cJ2_indexOf 30 = .ok (.iload_n 1, 1) := by decide +kernel
theorem dJ2_indexOf_31 : decode cJ2_indexOf 31 = .ok (.iload_n 2, 1) := by decide +kernel
theorem dJ2_indexOf_32 : decode cJ2_indexOf 32 = .ok (.iload_n 3, 1) := by decide +kernel
theorem dJ2_indexOf_33 : decode cJ2_indexOf 33 = .ok (.invokestatic 95, 3) := by decide +kernel
theorem dJ2_indexOf_36 : decode cJ2_indexOf 36 = .ok (.ireturn, 1) := by decide +kernel
theorem dJ2_canEncode_0 : decode cJ2_canEncode 0 = .ok (.iload_n 0, 1) := by decide +kernel
theorem dJ2_canEncode_1 : decode cJ2_canEncode 1 = .ok (.ifCond .lt 14, 3) := by decide +kernel
theorem dJ2_canEncode_4 : decode cJ2_canEncode 4 = .ok (.iload_n 0, 1) := by decide +kernel
theorem dJ2_canEncode_5 : decode cJ2_canEncode 5 = .ok (.sipush 255, 3) := by decide +kernel
theorem dJ2_canEncode_8 : decode cJ2_canEncode 8 = .ok (.if_icmp .gt 7, 3) := by decide +kernel
theorem dJ2_canEncode_11 : decode cJ2_canEncode 11 = .ok (.iconst 1, 1) := by decide +kernel
theorem dJ2_canEncode_12 : decode cJ2_canEncode 12 = .ok (.goto 4, 3) := by decide +kernel
theorem dJ2_canEncode_15 : decode cJ2_canEncode 15 = .ok (.iconst 0, 1) := by decide +kernel
theorem dJ2_canEncode_16 : decode cJ2_canEncode 16 = .ok (.ireturn, 1) := by decide +kernel
theorem dJ2_indexOfChar_0 : decode cJ2_indexOfChar 0 = .ok (.iload_n 1, 1) := by decide +kernel
theorem dJ2_indexOfChar_1 : decode cJ2_indexOfChar 1 = .ok (.i2b, 1) := by decide +kernel
theorem dJ2_indexOfChar_2 : decode cJ2_indexOfChar 2 = .ok (.istore 4, 2) := by decide +kernel
theorem dJ2_indexOfChar_4 : decode cJ2_indexOfChar 4 = .ok (.iload_n 2, 1) := by decide +kernel
theorem dJ2_indexOfChar_5 : decode cJ2_indexOfChar 5 = .ok (.istore 5, 2) := by decide +kernel
theorem dJ2_indexOfChar_7 : decode cJ2_indexOfChar 7 = .ok (.iload 5, 2) := by decide +kernel
theorem dJ2_indexOfChar_9 : decode cJ2_indexOfChar 9 = .ok (.iload_n 3, 1) := by decide +kernel
theorem dJ2_indexOfChar_10 : decode cJ2_indexOfChar 10 = .ok (.if_icmp .ge 21, 3) := by decide +kernel
theorem dJ2_indexOfChar_13 : decode cJ2_indexOfChar 13 = .ok (.aload_n 0, 1) := by decide +kernel
theorem dJ2_indexOfChar_14 : decode cJ2_indexOfChar 14 = .ok (.iload 5, 2) := by decide +kernel
theorem dJ2_indexOfChar_16 : decode cJ2_indexOfChar 16 = .ok (.baload, 1) := by decide +kernel
theorem dJ2_indexOfChar_17 : decode cJ2_indexOfChar 17 = .ok (.iload 4, 2) := by decide +kernel
theorem dJ2_indexOfChar_19 : decode cJ2_indexOfChar 19 = .ok (.if_icmp .ne 6, 3) := by decide +kernel
theorem dJ2_indexOfChar_22 : decode cJ2_indexOfChar 22 = .ok (.iload 5, 2) := by decide +kernel
theorem dJ2_indexOfChar_24 : decode cJ2_indexOfChar 24 = .ok (.ireturn, 1) := by decide +kernel
theorem dJ2_indexOfChar_25 : decode cJ2_indexOfChar 25 = .ok (.iinc 5 1, 3) := by decide +kernel
theorem dJ2_indexOfChar_28 : decode cJ2_indexOfChar 28 = .ok (.goto (-21), 3) := by decide +kernel
theorem dJ2_indexOfChar_31 : decode cJ2_indexOfChar 31 = .ok (.iconst (-1), 1) := by decide +kernel
theorem dJ2_indexOfChar_32 : decode cJ2_indexOfChar 32 = .ok (.ireturn, 1) := by decide +kernel
theorem vJ1_633 : VOK RJ1 633 RJ1 yJ1_indexOf_2 cJ1_indexOf_2 3 (some .int) 2 := ⟨lw_V q545 q546 q547 q85 q548, rfl, by decide, by decide, by decide +kernel⟩
theorem vJ1_492 : VOK RJ1 492 RJ1 yJ1_isLatin1 cJ1_isLatin1 1 (some .boolean) 0 := ⟨lw_V q549 q550 q551 q85 q552, rfl, by decide, by decide, by decide +kernel⟩
theorem vJ1_505 : VOK RJ1 505 RJ1 yJ1_length cJ1_length 1 (some .int) 0 := ⟨lw_V q555 q556 q557 q85 q558, rfl, by decide, by decide, by decide +kernel⟩
theorem vJ1_637 : SOK RJ1 637 yJ2_indexOf cJ2_indexOf 4 (some .int) 4 := ⟨lw_S q563 q564 q86 q565, by decide, by decide, by decide +kernel⟩
theorem vJ1_335 : VOK RJ1 335 RJ1 yJ1_coder cJ1_coder 1 (some .byte) 0 := ⟨lw_V q559 q560 q561 q85 q562, rfl, by decide, by decide, by decide +kernel⟩
theorem vJ2_88 : SOK RJ2 88 yJ2_canEncode cJ2_canEncode 1 (some .boolean) 1 := ⟨lw_S q566 q567 q86 q568, by decide, by decide, by decide +kernel⟩
theorem vJ2_95 : SOK RJ2 95 yJ2_indexOfChar cJ2_indexOfChar 6 (some .int) 4 := ⟨lw_S q573 q574 q86 q575, by decide, by decide, by decide +kernel⟩
/-! ===== the two constant texts: String.indexOf(I) ===== -/
def idxF : List Int32 → Int32 → Int32 → Int32
 | [], _, _ => -1
 | c :: l, n, x => if c = x then n else idxF l (n + 1) x
def idxS (w : Nat) (x : Int32) : Int32 := idxF (strByt.getD w []) 0 x
def stG (w j : Nat) : Int32 := (strByt.getD w []).getD j 0
def ixG (w : Nat) : Nat → Nat → Int32 → Int32
 | 0, _, _ => -1
 | n + 1, j, y => if stG w j = y then nI j else ixG w n (j + 1) y
theorem ixG_all : ∀ w, w < 2 → ∀ k, k < 256 → ixG w (strLen.getD w 0) 0 (nI k).toInt8.toInt32 = idxS w (nI k) := by decide +kernel
theorem idxF_out {x : Int32} : ∀ (l : List Int32) (n : Int32), (∀ c ∈ l, c ≠ x) → idxF l n x = -1
 | [], _, _ => rfl
 | c :: l, n, h => by
   unfold idxF
   rw [if_neg (h c List.mem_cons_self)]
   exact idxF_out l (n + 1) (fun z hz => h z (List.mem_cons_of_mem _ hz))
theorem str_rng : ∀ w, w < 2 → ∀ c ∈ strByt.getD w [], 0 ≤ c ∧ c ≤ 255 := by decide +kernel
def cen (x : Int32) : Int32 := if x < 0 then 0 else if (255 : Int32) < x then 0 else 1
theorem cen_0 {w : Nat} (hw : w < 2) {x : Int32} (h : cen x = 0) : idxS w x = -1 := by
  refine idxF_out _ _ fun c hc hx => ?_
  have := str_rng w hw c hc
  subst hx
  unfold cen at h
  rw [if_neg (Int32.not_lt.mpr this.1), if_neg (Int32.not_lt.mpr this.2)] at h
  cases h
theorem cen_1 {w : Nat} (hw : w < 2) {x : Int32} (h : ¬ cen x = 0) : ixG w (strLen.getD w 0) 0 x.toInt8.toInt32 = idxS w x := by
  unfold cen at h
  split at h
  · exact absurd rfl h
  · rename_i h0
    split at h
    · exact absurd rfl h
    · rename_i h1
      have h0' : (0 : Int) ≤ x.toInt := by simpa using Int32.le_iff_toInt_le.mp (Int32.not_lt.mp h0)
      have h1' : x.toInt ≤ 255 := by simpa using Int32.le_iff_toInt_le.mp (Int32.not_lt.mp h1)
      have e : x = nI x.toInt.toNat := by
        apply Int32.toInt_inj.mp
        rw [nI_toInt (by omega)]
        omega
      rw [e]
      exact ixG_all w hw _ (by omega)
def SAt (D : gD) (A : Nat → Prop) (w a b : Nat) (V : State) (H : Heap) : Prop := va_O "java/lang/String" a A V H ∧ va_OF "java/lang/String" "coder" "B" (.int 0) a A V H ∧ va_OF "java/lang/String" "value" "[B" (.ref b) a A V H ∧ va_T .byte b (strLen.getD w 0) (fun j => .int (stG w j)) A V H ∧ va_Z "java/lang/String" "COMPACT_STRINGS" "Z" (.int 1) A V H
theorem SAt.moved {D : gD} {A : Nat → Prop} {w a b : Nat} {u U : State} {H : Heap} (hvm : u.vm.Alike U.vm) (h : SAt D A w a b u H) : SAt D A w a b U H := ⟨va_O.moved hvm h.1, va_OF.moved hvm h.2.1, va_OF.moved hvm h.2.2.1, va_T.moved hvm h.2.2.2.1, va_Z.moved hvm h.2.2.2.2⟩
theorem SAt.kept {D : gD} {A : Nat → Prop} {w a b : Nat} {U : State} {H H1 : Heap} (h : SAt D A w a b U H) (hq : ∀ a : Nat, a < H.size → ¬ A a → H1[a]? = H[a]?) : SAt D A w a b U H1 := ⟨h.1.kept hq, h.2.1.kept hq, h.2.2.1.kept hq, h.2.2.2.1.kept hq, h.2.2.2.2.kept hq⟩
def Es (D : gD) (A : Nat → Prop) (w a b : Nat) (V : State) : Prop := SAt D A w a b V D.2.2
section STR
variable {p : Program} {l : Launch} {e : Env} {R : Room} {s : State} {m : MethodId} {args : Array Value} {below : List Frame} {meth : Method} {c : Code} {H : Heap} {locs : List Loc} {cells slots : Nat} {Q : State → Prop}
variable {cc : ByteArray} {nL : Nat} {ret : Option FieldType} {pc : Nat} {ls : Array Slot} {rest : List Value} {D : gD} {E : State → Prop} {A : Nat → Prop} {ad : Nat → Nat} {S : Nat → Nat × Nat} {σ : Mem} {own : String} {w a b : Nat}
theorem sat_now (Z : Cz D (Es D A w a b) A cc nL ret own p s m args meth c) : SAt D A w a b s s.heap :=
  SAt.kept (H := D.2.2) (Kx.now Z.2.2.2.2.2.2.2.1) (fun q _ hq => Z.2.2.2.2.2.2.2.2.2 q hq)
theorem s_recv (Z : Cz D (Es D A w a b) A cc nL ret own p s m args meth c) (hS : va_S A s.heap H locs) : ∃ cell : Cell, H[a]? = some cell ∧ cell.vm.isStatics = false ∧ s.vm.findClass "java/lang/String" = some cell.cls := by
  obtain ⟨cell, h1, h2, h3, -⟩ := (sat_now Z).1.kept hS.2.1
  exact ⟨cell, h1, h2, h3⟩
theorem s_rV {idx maxL n r : Nat} {Cn : String} {y : MethodName} {bytes : ByteArray} {rt : Option FieldType} {rm : Room} {As st0 : List Value} {v : Option Value} {σ' : Mem} (Z : Cz D E A cc nL ret own p s m args meth c) (hS : St D A ad S σ s.heap H locs) (hrv : ∃ cell : Cell, H[r]? = some cell ∧ cell.vm.isStatics = false ∧ s.vm.findClass Cn = some cell.cls) (V : VOK own idx Cn y bytes maxL rt n)
    (hM : Met l y (ws_ y bytes maxL rt) rm (va_Pc (.ref r :: As) (PreG D E A ad S σ)) (QG D A ad S v σ') 0 0 A) (hrc : rm.cells = 0) (hrs : rm.slots = 0) (hR : rm.frames + 1 ≤ R.frames ∧ 8 + (maxL + 11) + rm.locals ≤ R.locals) (hn : As.length = n) (hsz : ls.size = nL) (hst : st0 = As.reverse ++ .ref r :: rest) (hw : (rest.map fun v => v.category).sum ≤ 8) (hcl : cells ≤ R.cells) (hsl : slots ≤ R.slots) (hd : decode cc pc = .ok (.invokevirtual idx, 3)) :
    va_Run p l e R s m args below meth c H locs cells slots 0 0 (F0 m pc ls st0) rest (QG D A ad S v σ' (Value.ref r :: As).toArray) A :=
  va_runV (C := Cn) (As := As) (rest := rest) ⟨Z.1, Z.2.1, Z.2.2.2.2.1, Z.2.2.2.2.2.1, Z.2.2.2.2.2.2.1⟩ hM (cwV n Z.2.2.2.2.2.2.1 V.1 rfl hrc hrs V.2 hR) ⟨PreG.blind, hrv, PreG.at Z.2.2.2.2.2 hS⟩ rfl hn hsz hst (lv_room hw) hd ⟨hcl, hsl⟩
theorem s_rS {idx maxL n : Nat} {y : MethodName} {bytes : ByteArray} {rt : Option FieldType} {rm : Room} {As st0 : List Value} {v : Option Value} {σ' : Mem} (Z : Cz D E A cc nL ret own p s m args meth c) (hS : St D A ad S σ s.heap H locs) (V : SOK own idx y bytes maxL rt n)
    (hM : Met l y (ws_ y bytes maxL rt) rm (va_Pc As (PreG D E A ad S σ)) (QG D A ad S v σ') 0 0 A) (hrc : rm.cells = 0) (hrs : rm.slots = 0) (hR : rm.frames + 1 ≤ R.frames ∧ 8 + (maxL + 11) + rm.locals ≤ R.locals) (hn : As.length = n) (hsz : ls.size = nL) (hst : st0 = As.reverse ++ rest) (hw : (rest.map fun v => v.category).sum ≤ 8) (hcl : cells ≤ R.cells) (hsl : slots ≤ R.slots) (hd : decode cc pc = .ok (.invokestatic idx, 3)) :
    va_Run p l e R s m args below meth c H locs cells slots 0 0 (F0 m pc ls st0) rest (QG D A ad S v σ' As.toArray) A :=
  va_runS (As := As) (rest := rest) ⟨Z.1, Z.2.1, Z.2.2.2.2.1, Z.2.2.2.2.2.1, Z.2.2.2.2.2.2.1⟩ hM (va_cwS n Z.2.2.2.2.2.2.1 V.1 rfl hrc hrs V.2 hR) ⟨PreG.blind, PreG.at Z.2.2.2.2.2 hS⟩ rfl hn hsz hst (lv_room hw) hd ⟨hcl, hsl⟩
theorem wJ2_canEncode {x : Int32} : Met l yJ2_canEncode (ws_ yJ2_canEncode cJ2_canEncode 1 (some .boolean)) (k2_rm 0 0) (va_Pc [.int x] (PreG D E A ad S σ)) (QG D A ad S (some (.int (cen x))) σ) 0 0 A := by
  refine y_met (by decide) (Nat.le_of_ble_eq_true rfl) (fun p e s m below meth c ls Z hS hl => ?_)
  have hx := Z.1
  have hb := Z.2.1
  refine lv_iload_n hx hb dJ2_canEncode_0 rfl (lv_at hl 0 rfl) ?_
  refine lv_if_lt (tgt := 15) hx hb dJ2_canEncode_1 (by decide) (fun c1 => ?_) (fun c1 => ?_)
  · refine lv_iconst (v := (0 : Int32)) hx hb dJ2_canEncode_15 (by decide) ?_
    rw [show cen x = 0 from if_pos c1]
    exact y_zret hx hb Z.2.2.1 Z.2.2.2.1 rfl hS dJ2_canEncode_16
  · refine lv_iload_n hx hb dJ2_canEncode_4 rfl (lv_at hl 0 rfl) ?_
    refine lv_sipush (v := (255 : Int32)) hx hb dJ2_canEncode_5 (by decide) ?_
    refine lv_icmp_gt (tgt := 15) hx hb dJ2_canEncode_8 (by decide) (fun c2 => ?_) (fun c2 => ?_)
    · refine lv_iconst (v := (0 : Int32)) hx hb dJ2_canEncode_15 (by decide) ?_
      rw [show cen x = 0 from (if_neg c1).trans (if_pos c2)]
      exact y_zret hx hb Z.2.2.1 Z.2.2.2.1 rfl hS dJ2_canEncode_16
    · refine lv_iconst (v := (1 : Int32)) hx hb dJ2_canEncode_11 (by decide) ?_
      refine lv_goto (tgt := 16) hx hb dJ2_canEncode_12 (by decide) ?_
      rw [show cen x = 1 from (if_neg c1).trans (if_neg c2)]
      exact y_zret hx hb Z.2.2.1 Z.2.2.2.1 rfl hS dJ2_canEncode_16
theorem wJ2_char_L (Z : Cz D (Es D A w a b) A cJ2_indexOfChar 6 (some .int) RJ2 p s m args meth c) (hL : strLen.getD w 0 < 100) {y : Int32} : ∀ (n j : Nat), j + n = strLen.getD w 0 → ∀ (H : Heap) (locs : List Loc) (ls : Array Slot), St D A ad S σ s.heap H locs → lv_has ls 6 [(5, .int (nI j)), (4, .int y), (0, .ref b), (3, .int (nI (strLen.getD w 0)))] →
    W p l e R s m args below meth c H locs cells slots (MQ below (QG D A ad S (some (.int (ixG w n j y))) σ) args s cells slots A) (F0 m 7 ls []) := by
  have hx := Z.1
  have hb := Z.2.1
  intro n
  induction n with
  | zero =>
    intro j hj H locs ls hS hl
    refine lv_iload hx hb dJ2_indexOfChar_7 (lv_at hl 0 rfl) ?_
    refine lv_iload_n hx hb dJ2_indexOfChar_9 rfl (lv_at hl 3 rfl) ?_
    refine lv_icmp_ge (tgt := 31) hx hb dJ2_indexOfChar_10 (by decide) (fun c1 => ?_) (fun c1 => ?_)
    · refine lv_iconst (v := (-1 : Int32)) hx hb dJ2_indexOfChar_31 (by decide) ?_
      exact y_iret hx hb Z.2.2.1 Z.2.2.2.1 hS dJ2_indexOfChar_32
    · exact absurd (nI_le (by omega) (by omega)) c1
  | succ n ih =>
    intro j hj H locs ls hS hl
    refine lv_iload hx hb dJ2_indexOfChar_7 (lv_at hl 0 rfl) ?_
    refine lv_iload_n hx hb dJ2_indexOfChar_9 rfl (lv_at hl 3 rfl) ?_
    refine lv_icmp_ge (tgt := 31) hx hb dJ2_indexOfChar_10 (by decide) (fun c1 => ?_) (fun c1 => ?_)
    · exact absurd c1 (nI_ge (by omega) (by omega))
    · refine lv_aload_n hx hb dJ2_indexOfChar_13 rfl (lv_at hl 2 rfl) ?_
      refine lv_iload hx hb dJ2_indexOfChar_14 (lv_at hl 0 rfl) ?_
      refine va_tb hx hb (sat_now Z).2.2.2.1 hS.2 (i := nI j) (inb_in (by
        unfold inb
        have := nI_toInt (n := j) (by omega)
        simp only [Bool.and_eq_true, decide_eq_true_eq]
        omega)) (v := .int (stG w j)) (by rw [nI_clamp (by omega)]) dJ2_indexOfChar_16 ?_
      refine lv_iload hx hb dJ2_indexOfChar_17 (lv_at hl 1 rfl) ?_
      refine lv_icmp_ne (tgt := 25) hx hb dJ2_indexOfChar_19 (by decide) (fun c2 => ?_) (fun c2 => ?_)
      · refine lv_iinc (v := nI (j + 1)) (lv' := [(5, .int (nI (j + 1))), (4, .int y), (0, .ref b), (3, .int (nI (strLen.getD w 0)))]) hx hb dJ2_indexOfChar_25 hl (k := 0) rfl (nI_succ j).symm (by decide) rfl (fun ls hl => ?_)
        refine lv_goto (tgt := 7) hx hb dJ2_indexOfChar_28 (by decide) ?_
        rw [show ixG w (n + 1) j y = ixG w n (j + 1) y from if_neg c2]
        exact ih (j + 1) (by omega) H locs ls hS hl
      · refine lv_iload hx hb dJ2_indexOfChar_22 (lv_at hl 0 rfl) ?_
        rw [show ixG w (n + 1) j y = nI j from if_pos c2]
        exact y_iret hx hb Z.2.2.1 Z.2.2.2.1 hS dJ2_indexOfChar_24
theorem wJ2_char {x : Int32} (hL : strLen.getD w 0 < 100) : Met l yJ2_indexOfChar (ws_ yJ2_indexOfChar cJ2_indexOfChar 6 (some .int)) (k2_rm 0 0) (va_Pc [.ref b, .int x, .int 0, .int (nI (strLen.getD w 0))] (PreG D (Es D A w a b) A ad S σ)) (QG D A ad S (some (.int (ixG w (strLen.getD w 0) 0 x.toInt8.toInt32))) σ) 0 0 A := by
  refine y_met (by decide) (Nat.le_of_ble_eq_true rfl) (fun p e s m below meth c ls Z hS hl => ?_)
  have hx := Z.1
  have hb := Z.2.1
  refine lv_iload_n hx hb dJ2_indexOfChar_0 rfl (lv_at hl 1 rfl) ?_
  refine lv_i2b (v := x.toInt8.toInt32) hx hb dJ2_indexOfChar_1 rfl ?_
  refine lv_istore (lv' := [(4, .int x.toInt8.toInt32), (0, .ref b), (1, .int x), (2, .int 0), (3, .int (nI (strLen.getD w 0)))]) hx hb dJ2_indexOfChar_2 hl (by decide) rfl (fun ls hl => ?_)
  refine lv_iload_n hx hb dJ2_indexOfChar_4 rfl (lv_at hl 3 rfl) ?_
  refine lv_istore (lv' := [(5, .int 0), (4, .int x.toInt8.toInt32), (0, .ref b), (1, .int x), (2, .int 0), (3, .int (nI (strLen.getD w 0)))]) hx hb dJ2_indexOfChar_5 hl (by decide) rfl (fun ls hl => ?_)
  exact wJ2_char_L Z hL (strLen.getD w 0) 0 (by omega) _ _ _ hS (lv_sub hl [0, 1, 2, 5] rfl)
theorem wJ2_indexOf {x : Int32} (hw : w < 2) : Met l yJ2_indexOf (ws_ yJ2_indexOf cJ2_indexOf 4 (some .int)) (k2_rm 2 60) (va_Pc [.ref b, .int x, .int 0, .int (nI (strLen.getD w 0))] (PreG D (Es D A w a b) A ad S σ)) (QG D A ad S (some (.int (idxS w x))) σ) 0 0 A := by
  have hL : ∀ w, w < 2 → strLen.getD w 0 < 100 ∧ 0 < strLen.getD w 0 := by decide
  refine y_met (by decide) (Nat.le_of_ble_eq_true rfl) (fun p e s m below meth c ls Z hS hl => ?_)
  have hx := Z.1
  have hb := Z.2.1
  refine lv_iload_n hx hb dJ2_indexOf_0 rfl (lv_at hl 1 rfl) ?_
  refine y_go (mc := 0) (ms := 0) (s_rS (rest := []) Z hS vJ2_88 wJ2_canEncode rfl rfl ⟨by decide, by decide⟩ rfl hl.1 rfl (Nat.le_of_ble_eq_true rfl) (Nat.zero_le _) (Nat.zero_le _) dJ2_indexOf_1) hS.2 (fun H locs hS => ?_)
  refine lv_if_ne (tgt := 9) hx hb dJ2_indexOf_4 (by decide) (fun c1 => ?_) (fun c1 => ?_)
  · refine lv_iload_n hx hb dJ2_indexOf_9 rfl (lv_at hl 2 rfl) ?_
    refine lv_iconst (v := (0 : Int32)) hx hb dJ2_indexOf_10 (by decide) ?_
    refine y_imax hx hb (hl.1 ▸ Z.2.2.2.2.1) Z.2.2.2.2.2 q569 (by decide) (Nat.le_of_ble_eq_true rfl) (Nat.zero_le _) (Nat.zero_le _) dJ2_indexOf_11 ?_
    refine lv_istore_n (lv' := [(2, .int 0), (0, .ref b), (1, .int x), (3, .int (nI (strLen.getD w 0)))]) hx hb dJ2_indexOf_14 rfl hl (by decide) rfl (fun ls hl => ?_)
    refine lv_iload_n hx hb dJ2_indexOf_15 rfl (lv_at hl 3 rfl) ?_
    refine lv_aload_n hx hb dJ2_indexOf_16 rfl (lv_at hl 1 rfl) ?_
    refine va_tlen hx hb (sat_now Z).2.2.2.1 hS.2 (v := nI (strLen.getD w 0)) rfl dJ2_indexOf_17 ?_
    refine y_imin hx hb (hl.1 ▸ Z.2.2.2.2.1) Z.2.2.2.2.2 q570 (by decide) (Nat.le_of_ble_eq_true rfl) (Nat.zero_le _) (Nat.zero_le _) dJ2_indexOf_18 ?_
    rw [show imin (nI (strLen.getD w 0)) (nI (strLen.getD w 0)) = nI (strLen.getD w 0) from ite_self _]
    refine lv_istore_n (lv' := [(3, .int (nI (strLen.getD w 0))), (2, .int 0), (0, .ref b), (1, .int x)]) hx hb dJ2_indexOf_21 rfl hl (by decide) rfl (fun ls hl => ?_)
    refine lv_iload_n hx hb dJ2_indexOf_22 rfl (lv_at hl 1 rfl) ?_
    refine lv_iload_n hx hb dJ2_indexOf_23 rfl (lv_at hl 0 rfl) ?_
    refine lv_icmp_lt (tgt := 29) hx hb dJ2_indexOf_24 (by decide) (fun c2 => ?_) (fun c2 => ?_)
    · refine lv_aload_n hx hb dJ2_indexOf_29 rfl (lv_at hl 2 rfl) ?_
      refine lv_iload_n hx hb dJ2_indexOf_30 rfl (lv_at hl 3 rfl) ?_
      refine lv_iload_n hx hb dJ2_indexOf_31 rfl (lv_at hl 1 rfl) ?_
      refine lv_iload_n hx hb dJ2_indexOf_32 rfl (lv_at hl 0 rfl) ?_
      refine y_go (mc := 0) (ms := 0) (s_rS (rest := []) Z hS vJ2_95 (wJ2_char (hL w hw).1) rfl rfl ⟨by decide, by decide⟩ rfl hl.1 rfl (Nat.le_of_ble_eq_true rfl) (Nat.zero_le _) (Nat.zero_le _) dJ2_indexOf_33) hS.2 (fun H locs hS => ?_)
      rw [cen_1 hw c1]
      exact y_iret hx hb Z.2.2.1 Z.2.2.2.1 hS dJ2_indexOf_36
    · exact absurd (nI_lt (a := 0) (hL w hw).2 (by have := (hL w hw).1; omega)) c2
  · refine lv_iconst (v := (-1 : Int32)) hx hb dJ2_indexOf_7 (by decide) ?_
    rw [cen_0 hw c1]
    exact y_iret hx hb Z.2.2.1 Z.2.2.2.1 hS dJ2_indexOf_8
theorem wJ1_isLatin1 : Met l yJ1_isLatin1 (ws_ yJ1_isLatin1 cJ1_isLatin1 1 (some .boolean)) (k2_rm 0 0) (va_Pc [.ref a] (PreG D (Es D A w a b) A ad S σ)) (QG D A ad S (some (.int 1)) σ) 0 0 A := by
  refine y_met (by decide) (Nat.le_of_ble_eq_true rfl) (fun p e s m below meth c ls Z hS hl => ?_)
  have hx := Z.1
  have hb := Z.2.1
  have hown := Z.2.2.2.2.2.1
  have hts := Z.2.2.2.2.2.2.1
  refine va_gets hx hb (sat_now Z).2.2.2.2 hS.2 hown (hts _ q553) (fun x h => h) dJ1_isLatin1_0 ?_
  refine lv_if_eq (tgt := 17) hx hb dJ1_isLatin1_3 (by decide) (fun c1 => absurd c1 (by decide)) (fun c1 => ?_)
  refine lv_aload_n hx hb dJ1_isLatin1_6 rfl (lv_at hl 0 rfl) ?_
  refine vk_getf hx hb (sat_now Z).2.1 hS.2 hown (hts _ q1747) (fun x h => h) dJ1_isLatin1_7 ?_
  refine lv_if_ne (tgt := 17) hx hb dJ1_isLatin1_10 (by decide) (fun c1 => absurd rfl c1) (fun c1 => ?_)
  refine lv_iconst (v := (1 : Int32)) hx hb dJ1_isLatin1_13 (by decide) ?_
  refine lv_goto (tgt := 18) hx hb dJ1_isLatin1_14 (by decide) ?_
  exact y_zret hx hb Z.2.2.1 Z.2.2.2.1 rfl hS dJ1_isLatin1_18
theorem wJ1_coder : Met l yJ1_coder (ws_ yJ1_coder cJ1_coder 1 (some .byte)) (k2_rm 0 0) (va_Pc [.ref a] (PreG D (Es D A w a b) A ad S σ)) (QG D A ad S (some (.int 0)) σ) 0 0 A := by
  refine y_met (by decide) (Nat.le_of_ble_eq_true rfl) (fun p e s m below meth c ls Z hS hl => ?_)
  have hx := Z.1
  have hb := Z.2.1
  have hown := Z.2.2.2.2.2.1
  have hts := Z.2.2.2.2.2.2.1
  refine va_gets hx hb (sat_now Z).2.2.2.2 hS.2 hown (hts _ q553) (fun x h => h) dJ1_coder_0 ?_
  refine lv_if_eq (tgt := 13) hx hb dJ1_coder_3 (by decide) (fun c1 => absurd c1 (by decide)) (fun c1 => ?_)
  refine lv_aload_n hx hb dJ1_coder_6 rfl (lv_at hl 0 rfl) ?_
  refine vk_getf hx hb (sat_now Z).2.1 hS.2 hown (hts _ q1747) (fun x h => h) dJ1_coder_7 ?_
  refine lv_goto (tgt := 14) hx hb dJ1_coder_10 (by decide) ?_
  exact W.zret hx hb Z.2.2.1 rfl (fun t ht _ => ⟨rfl, by rw [ht]; exact hS.1, hS.2.F ht⟩) hS.2.2.2 dJ1_coder_14 Z.2.2.2.1
theorem wJ1_length : Met l yJ1_length (ws_ yJ1_length cJ1_length 1 (some .int)) (k2_rm 1 30) (va_Pc [.ref a] (PreG D (Es D A w a b) A ad S σ)) (QG D A ad S (some (.int (nI (strLen.getD w 0)))) σ) 0 0 A := by
  refine y_met (by decide) (Nat.le_of_ble_eq_true rfl) (fun p e s m below meth c ls Z hS hl => ?_)
  have hx := Z.1
  have hb := Z.2.1
  have hown := Z.2.2.2.2.2.1
  have hts := Z.2.2.2.2.2.2.1
  refine lv_aload_n hx hb dJ1_length_0 rfl (lv_at hl 0 rfl) ?_
  refine vk_getf hx hb (sat_now Z).2.2.1 hS.2 hown (hts _ q1748) (fun x h => h) dJ1_length_1 ?_
  refine va_tlen hx hb (sat_now Z).2.2.2.1 hS.2 (v := nI (strLen.getD w 0)) rfl dJ1_length_4 ?_
  refine lv_aload_n hx hb dJ1_length_5 rfl (lv_at hl 0 rfl) ?_
  refine y_go (mc := 0) (ms := 0) (s_rV (rest := [.int (nI (strLen.getD w 0))]) Z hS (s_recv Z hS.2) vJ1_335 wJ1_coder rfl rfl ⟨by decide, by decide⟩ rfl hl.1 rfl (Nat.le_of_ble_eq_true rfl) (Nat.zero_le _) (Nat.zero_le _) dJ1_length_6) hS.2 (fun H locs hS => ?_)
  refine lv_ishr hx hb dJ1_length_9 ?_
  rw [show nI (strLen.getD w 0) >>> ((0 : Int32) &&& 31) = nI (strLen.getD w 0) from by simp]
  exact y_iret hx hb Z.2.2.1 Z.2.2.2.1 hS dJ1_length_10
theorem wJ1_indexOf_2 {x : Int32} (hw : w < 2) : Met l yJ1_indexOf_2 (ws_ yJ1_indexOf_2 cJ1_indexOf_2 3 (some .int)) (k2_rm 3 100) (va_Pc [.ref a, .int x, .int 0] (PreG D (Es D A w a b) A ad S σ)) (QG D A ad S (some (.int (idxS w x))) σ) 0 0 A := by
  refine y_met (by decide) (Nat.le_of_ble_eq_true rfl) (fun p e s m below meth c ls Z hS hl => ?_)
  have hx := Z.1
  have hb := Z.2.1
  have hown := Z.2.2.2.2.2.1
  have hts := Z.2.2.2.2.2.2.1
  refine lv_aload_n hx hb dJ1_indexOf_2_0 rfl (lv_at hl 0 rfl) ?_
  refine y_go (mc := 0) (ms := 0) (s_rV (rest := []) Z hS (s_recv Z hS.2) vJ1_492 wJ1_isLatin1 rfl rfl ⟨by decide, by decide⟩ rfl hl.1 rfl (Nat.le_of_ble_eq_true rfl) (Nat.zero_le _) (Nat.zero_le _) dJ1_indexOf_2_1) hS.2 (fun H locs hS => ?_)
  refine lv_if_eq (tgt := 23) hx hb dJ1_indexOf_2_4 (by decide) (fun c1 => absurd c1 (by decide)) (fun c1 => ?_)
  refine lv_aload_n hx hb dJ1_indexOf_2_7 rfl (lv_at hl 0 rfl) ?_
  refine vk_getf hx hb (sat_now Z).2.2.1 hS.2 hown (hts _ q1748) (fun x h => h) dJ1_indexOf_2_8 ?_
  refine lv_iload_n hx hb dJ1_indexOf_2_11 rfl (lv_at hl 1 rfl) ?_
  refine lv_iload_n hx hb dJ1_indexOf_2_12 rfl (lv_at hl 2 rfl) ?_
  refine lv_aload_n hx hb dJ1_indexOf_2_13 rfl (lv_at hl 0 rfl) ?_
  refine y_go (mc := 0) (ms := 0) (s_rV (rest := [.int 0, .int x, .ref b]) Z hS (s_recv Z hS.2) vJ1_505 wJ1_length rfl rfl ⟨by decide, by decide⟩ rfl hl.1 rfl (Nat.le_of_ble_eq_true rfl) (Nat.zero_le _) (Nat.zero_le _) dJ1_indexOf_2_14) hS.2 (fun H locs hS => ?_)
  refine y_go (mc := 0) (ms := 0) (s_rS (rest := []) Z hS vJ1_637 (wJ2_indexOf hw) rfl rfl ⟨by decide, by decide⟩ rfl hl.1 rfl (Nat.le_of_ble_eq_true rfl) (Nat.zero_le _) (Nat.zero_le _) dJ1_indexOf_2_17) hS.2 (fun H locs hS => ?_)
  refine lv_goto (tgt := 36) hx hb dJ1_indexOf_2_20 (by decide) ?_
  exact y_iret hx hb Z.2.2.1 Z.2.2.2.1 hS dJ1_indexOf_2_36
theorem wJ1_indexOf {x : Int32} (hw : w < 2) : Met l yJ1_indexOf (ws_ yJ1_indexOf cJ1_indexOf 2 (some .int)) (k2_rm 4 140) (va_Pc [.ref a, .int x] (PreG D (Es D A w a b) A ad S σ)) (QG D A ad S (some (.int (idxS w x))) σ) 0 0 A := by
  refine y_met (by decide) (Nat.le_of_ble_eq_true rfl) (fun p e s m below meth c ls Z hS hl => ?_)
  have hx := Z.1
  have hb := Z.2.1
  refine lv_aload_n hx hb dJ1_indexOf_0 rfl (lv_at hl 0 rfl) ?_
  refine lv_iload_n hx hb dJ1_indexOf_1 rfl (lv_at hl 1 rfl) ?_
  refine lv_iconst (v := (0 : Int32)) hx hb dJ1_indexOf_2 (by decide) ?_
  refine y_go (mc := 0) (ms := 0) (s_rV (rest := []) Z hS (s_recv Z hS.2) vJ1_633 (wJ1_indexOf_2 hw) rfl rfl ⟨by decide, by decide⟩ rfl hl.1 rfl (Nat.le_of_ble_eq_true rfl) (Nat.zero_le _) (Nat.zero_le _) dJ1_indexOf_3) hS.2 (fun H locs hS => ?_)
  exact y_iret hx hb Z.2.2.1 Z.2.2.2.1 hS dJ1_indexOf_6
/-- the three places where a text's index is asked -/
def idxAt (own : String) (idx w : Nat) : Prop := w < 2 ∧ ∀ (D : gD) (A : Nat → Prop) (V : State) (adK : Nat → Nat), vk_R "ClogHouse$Reader" 48 "wrcu" (adK 0) V ∧ vk_R "ClogHouse$Reader" 120 "phoink" (adK 1) V ∧ vk_R "ClogHouse" 276 "wrcu" (adK 0) V → ∃ tx, vk_R own idx tx (adK w) V
theorem idxAt_0 : idxAt "ClogHouse$Reader" 48 0 := ⟨by decide, fun _ _ _ _ h => ⟨_, h.1⟩⟩
theorem idxAt_1 : idxAt "ClogHouse$Reader" 120 1 := ⟨by decide, fun _ _ _ _ h => ⟨_, h.2.1⟩⟩
theorem idxAt_2 : idxAt "ClogHouse" 276 0 := ⟨by decide, fun _ _ _ _ h => ⟨_, h.2.2⟩⟩
theorem h_idx {x : Int32} {idx1 idx2 : Nat} {kf : Fin 4} {cl sl : Nat} (Z : Cz D (Ew D A) A cc nL ret own p s m args meth c) (hS : St D A ad S σ s.heap H locs) (hI : idxAt own idx1 w) (V : VOK own idx2 RJ1 yJ1_indexOf cJ1_indexOf 2 (some .int) 1)
    (h1 : 5 ≤ R.frames) (h2 : 170 ≤ R.locals) (h3 : cl ≤ R.cells) (h4 : sl ≤ R.slots) (hsz : ls.size = nL) (hr : (rest.map fun v => v.category).sum ≤ 8) (hk : ls[(kf : Nat)]? = some (.val (.int x)))
    (d1 : decode cc pc = .ok (.ldc idx1, 2)) (d2 : decode cc (pc + 2) = .ok (.iload_n kf, 1)) (d3 : decode cc (pc + 3) = .ok (.invokevirtual idx2, 3))
    (kk : ∀ (H : Heap) (locs : List Loc), St D A ad S σ s.heap H locs → W p l e R s m args below meth c H locs cl sl Q (F0 m (pc + 6) ls (.int (idxS w x) :: rest))) :
    W p l e R s m args below meth c H locs cl sl Q (F0 m pc ls rest) := by
  obtain ⟨hw, hI⟩ := hI
  obtain ⟨-, -, adK, adV, hV, hr1, hr2, hr3, hcs, -⟩ := id (Kx.now Z.2.2.2.2.2.2.2.1)
  obtain ⟨tx, hR⟩ := hI D A s adK ⟨hr1, hr2, hr3⟩
  have hsat : SAt D A w (adK w) (adV w) s D.2.2 := ⟨(hV.1 w hw).1, (hV.1 w hw).2.1, (hV.1 w hw).2.2.1, (hV.1 w hw).2.2.2, hcs⟩
  have Z' : Cz D (Es D A w (adK w) (adV w)) A cc nL ret own p s m args meth c := ⟨Z.1, Z.2.1, Z.2.2.1, Z.2.2.2.1, Z.2.2.2.2.1, Z.2.2.2.2.2.1, Z.2.2.2.2.2.2.1, ⟨Z.2.2.2.2.2.2.2.1.1, fun U hU => SAt.moved hU.alike hsat⟩, Z.2.2.2.2.2.2.2.2⟩
  refine va_ldcS Z.1 Z.2.1 Z.2.2.2.2.2.1 hR d1 ?_
  refine lv_iload_n Z.1 Z.2.1 d2 rfl hk ?_
  exact y_go (mc := 0) (ms := 0) (s_rV (rest := rest) Z' hS (s_recv Z' hS.2) V (wJ1_indexOf hw) rfl rfl ⟨by show 4 + 1 ≤ _; omega, by show 8 + (2 + 11) + 140 ≤ _; omega⟩ rfl hsz rfl hr h3 h4 d3) hS.2 (fun H locs hS => kk H locs hS)
end STR
