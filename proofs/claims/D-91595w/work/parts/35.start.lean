set_option maxRecDepth 100000
/-! ===== what holds at the law's entry ===== -/
theorem ar_known {args : Array Value} {s : State} {ty : FieldType} (h : (Cond.arrayClass ty).before args s = true) : ∃ cA, s.vm.findClass ("[" ++ ty.toString) = some cA ∧ ArrOfT s cA ty := by
  obtain ⟨c, k, comp, h1, h2, h3⟩ := Cond.arrayClass_spec h
  exact ⟨c, h1, fun n z => ⟨fun k h => (by cases h), k, h2, comp, h3⟩⟩
theorem ao_known {args : Array Value} {s : State} {C : String} (h : (Cond.arrayOver (.object C)).before args s = true) : ∃ cA, s.vm.findClass ("[" ++ (FieldType.object C).toString) = some cA ∧ ArrOfT s cA (.object C) ∧ va_RA s cA (.object C) := by
  obtain ⟨comp, c, k, h1, h2, h3, h4, h5⟩ := Cond.arrayOver_spec h
  exact ⟨c, h5, fun n z => ⟨fun k h => (by cases h), k, h3, comp, h4⟩, k, comp, h3, h4, h1, h5⟩
set_option maxHeartbeats 4000000 in
theorem st_K {args : Array Value} {s : State} (hts : ∀ w ∈ lw_tbl, w.before args s = true) : ∃ (dC : Nat → ClassId) (dI : Nat → Nat → Nat) (dA : Nat → ClassId), va_K (dC, dI) vwCl (tysG dA) s ∧ ∀ a, 1 ≤ a → a < 8 → s.vm.findClass (arN.getD a "") = some (dA a) := by
  have hta : ∀ w ∈ lw_all, w.before args s = true := fun w h => hts w (lw_all_tbl h)
  obtain ⟨c0, i0, k0⟩ := u_known (C := RX1) (T := TX1) (N := 39) (n := 39) hta in_X1 (hta _ q106)
  obtain ⟨c1, i1, k1⟩ := u_known (C := RX2) (T := TX2) (N := 3) (n := 3) hta in_X2 (hta _ q114)
  obtain ⟨c2, i2, k2⟩ := u_known (C := RX3) (T := TX3) (N := 17) (n := 17) hta in_X3 (hta _ q142)
  obtain ⟨c3, i3, k3⟩ := u_known (C := RX5) (T := TX5) (N := 1) (n := 1) hta in_X5 (hta _ q149)
  obtain ⟨c4, i4, k4⟩ := u_known (C := RX7) (T := TX7) (N := 5) (n := 5) hta in_X7 (hta _ q372)
  obtain ⟨c5, i5, k5⟩ := u_known (C := RX8) (T := TX8) (N := 4) (n := 4) hta in_X8 (hta _ q510)
  obtain ⟨c6, i6, k6⟩ := u_known (C := RX10) (T := TX10) (N := 3) (n := 3) hta in_X10 (hta _ q703)
  obtain ⟨c7, i7, k7⟩ := u_known (C := RX11) (T := TX11) (N := 1) (n := 1) hta in_X11 (hta _ q717)
  obtain ⟨c8, i8, k8⟩ := u_known (C := RX13) (T := TX13) (N := 3) (n := 3) hta in_X13 (hta _ q735)
  obtain ⟨c9, i9, k9⟩ := u_known (C := RX14) (T := TX14) (N := 1) (n := 1) hta in_X14 (hta _ q746)
  obtain ⟨c10, i10, k10⟩ := u_known (C := RX15) (T := TX15) (N := 1) (n := 1) hta in_X15 (hta _ q767)
  obtain ⟨c11, i11, k11⟩ := u_known (C := RX16) (T := TX16) (N := 3) (n := 3) hta in_X16 (hta _ q795)
  obtain ⟨c12, i12, k12⟩ := u_known (C := RX17) (T := TX17) (N := 3) (n := 3) hta in_X17 (hta _ q815)
  obtain ⟨c13, i13, k13⟩ := u_known (C := RX18) (T := TX18) (N := 4) (n := 4) hta in_X18 (hta _ q850)
  obtain ⟨c14, i14, k14⟩ := u_known (C := RX6) (T := TX6) (N := 63) (n := 63) hta in_X6 (hta _ q1180)
  obtain ⟨c15, i15, k15⟩ := u_known (C := RX9) (T := TX9) (N := 7) (n := 7) hta in_X9 (hta _ q630)
  obtain ⟨c16, i16, k16⟩ := u_known (C := RJ9) (T := TJ9) (N := 6) (n := 6) hta in_J9 (hta _ q1159)
  obtain ⟨a1, f1, t1⟩ := ar_known (hta _ q134)
  obtain ⟨a2, f2, t2⟩ := ar_known (hta _ q166)
  obtain ⟨a3, f3, t3⟩ := ar_known (hta _ q1376)
  obtain ⟨a4, f4, t4⟩ := ar_known (hta _ q1377)
  obtain ⟨a5, f5, t5, r5⟩ := ao_known (hts _ q136)
  obtain ⟨a6, f6, t6, r6⟩ := ao_known (hts _ q141)
  obtain ⟨a7, f7, t7, r7⟩ := ao_known (hts _ q138)

  refine ⟨fun k => [c0, c1, c2, c3, c4, c5, c6, c7, c8, c9, c10, c11, c12, c13, c14, c15, c16].getD k 0, fun k => [i0, i1, i2, i3, i4, i5, i6, i7, i8, i9, i10, i11, i12, i13, i14, i15, i16].getD k (fun _ => 0), fun a => [0, a1, a2, a3, a4, a5, a6, a7].getD a 0, ⟨?_, ?_⟩, ?_⟩
  · intro k q hq
    match k, hq with
    | 0, hq => cases hq; exact k0
    | 1, hq => cases hq; exact k1
    | 2, hq => cases hq; exact k2
    | 3, hq => cases hq; exact k3
    | 4, hq => cases hq; exact k4
    | 5, hq => cases hq; exact k5
    | 6, hq => cases hq; exact k6
    | 7, hq => cases hq; exact k7
    | 8, hq => cases hq; exact k8
    | 9, hq => cases hq; exact k9
    | 10, hq => cases hq; exact k10
    | 11, hq => cases hq; exact k11
    | 12, hq => cases hq; exact k12
    | 13, hq => cases hq; exact k13
    | 14, hq => cases hq; exact k14
    | 15, hq => cases hq; exact k15
    | 16, hq => cases hq; exact k16
    | k + 17, hq => simp [vwCl] at hq
  · intro k q hq
    match k, hq with
    | 0, hq => cases hq; exact ⟨t1, f1⟩
    | 1, hq => cases hq; exact ⟨t2, f2⟩
    | 2, hq => cases hq; exact ⟨t3, f3⟩
    | 3, hq => cases hq; exact ⟨t4, f4⟩
    | 4, hq => cases hq; exact ⟨t5, r5⟩
    | 5, hq => cases hq; exact ⟨t6, r6⟩
    | 6, hq => cases hq; exact ⟨t7, r7⟩
    | k + 7, hq => simp [tysG] at hq
  · intro a h1 h8
    rcases (show a = 1 ∨ a = 2 ∨ a = 3 ∨ a = 4 ∨ a = 5 ∨ a = 6 ∨ a = 7 by omega) with rfl | rfl | rfl | rfl | rfl | rfl | rfl
    · exact f1
    · exact f2
    · exact f3
    · exact f4
    · exact f5
    · exact f6
    · exact f7
/-! words that ride with the tables -/
def ewN : Cond → Nat
  | .fieldLinkNest .. => 1
  | .methodLinkNest .. => 2
  | .arrayOver (.object _) => 3
  | .landsInDefault .. => 4
  | _ => 0
theorem ew_kinds : ∀ w ∈ ewL, (ewN w = 0 → (w.onTables && w.keepsFace) = true) ∧ (w ∈ lw_tbl ∨ w ∈ flatC (Jvm.Cond.and given_1 narrow_1)) := by decide +kernel
theorem zd_landW {cls : String} {x y : MethodName} {s V : State} {as : Array Value} (hvm : s.vm.Alike V.vm) (h : (Cond.landsInDefault cls x y).before as s = true) : va_Nw (.landsInDefault cls x y) V := by
  have e1 : V.vm.findClass cls = s.vm.findClass cls := hvm.findClass ..
  have e2 : V.methodFound? x.cls x.name x.desc = s.methodFound? x.cls x.name x.desc := State.methodFound?_setVm (s := s) hvm _ _ _
  have e3 : V.methodNamed? y = s.methodNamed? y := State.methodNamed?_setVm (s := s) hvm _
  unfold va_Nw
  simp only [Cond.before, Cond.holds, Cond.value] at h ⊢
  rw [e1, e2, e3]
  simp only [hvm.method?, hvm.selectMethod, hvm.superclasses, hvm.declaredIn, zd_held hvm, zd_any hvm (fun k => k.isInterface) (fun _ => rfl)]
  exact h
theorem ew_warm {s V : State} {as : Array Value} (hW : s.WarmedH V.vm) {w : Cond} (hk : ewN w = 0 → (w.onTables && w.keepsFace) = true) (h : w.before as s = true) : va_Nw w V := by
  by_cases h0 : ewN w = 0
  · have hk := hk h0
    simp only [Bool.and_eq_true] at hk
    have h1 : w.before as (s.setVm V.vm) = true := Cond.before_shiftedFace (State.Shifted.of_warmed hW) w hk.2 h
    exact va_tabs hk.1 (show (s.setVm V.vm).vm = V.vm from rfl) h1
  · cases w
    case fieldLinkNest a i b n d z => exact va_Nw.warmF hW (va_Nw.of rfl h)
    case methodLinkNest a i x z => exact va_Nw.warmM hW (va_Nw.of rfl h)
    case landsInDefault C x y => exact zd_landW hW.alike h
    case arrayOver ty =>
      cases ty
      case object C => exact va_AO.moved hW.alike h
      all_goals exact absurd rfl h0
    all_goals exact absurd rfl h0
theorem st_Sst {args : Array Value} {s V : State} {D : gD} (hD : D.2.2 = s.heap) (hW : s.vm.Alike V.vm) (h1 : (Cond.laysStatic "java/lang/Throwable" "UNASSIGNED_STACK" "[Ljava/lang/StackTraceElement;").before args s = true) (h2 : (Cond.laysStatic "java/lang/Throwable" "SUPPRESSED_SENTINEL" "Ljava/util/List;").before args s = true)
    (z1 : va_Zq "java/lang/Throwable" "UNASSIGNED_STACK" "[Ljava/lang/StackTraceElement;" (fun q => s.heap.size ≤ q) s s.heap) (z2 : va_Zq "java/lang/Throwable" "SUPPRESSED_SENTINEL" "Ljava/util/List;" (fun q => s.heap.size ≤ q) s s.heap) : Sst D (fun q => s.heap.size ≤ q) V := by
  intro U as hU hh
  have hal : s.vm.Alike U.vm := hW.trans hU
  have hq : ∀ a : Nat, a < s.heap.size → ¬ (fun q => s.heap.size ≤ q) a → U.heap[a]? = s.heap[a]? := fun a _ ha => by rw [hh a ha, hD]
  have one : ∀ {o n d : String}, (Cond.laysStatic o n d).before args s = true → (Cond.laysStatic o n d).before as U = true := fun {o n d} h => by
    obtain ⟨c, k, i, f, a, cell, hc, hi, hst, ha, hcell, hs, hcls, hlt, hty⟩ := Cond.laysStatic_spec (Cond.laysStatic_setVm hal h)
    have hl : a < s.heap.size := (Array.getElem?_eq_some_iff.mp (show s.heap[a]? = some cell from hcell)).1
    exact Cond.laysStatic_of (s := U) hc hi hst ha (by rw [hq a hl (Nat.not_le.mpr hl)]; exact hcell) hs hcls hlt hty
  have two : ∀ {o n d : String}, va_Zq o n d (fun q => s.heap.size ≤ q) s s.heap → (Cond.isRef (.static o n d)).before as U = true := fun {o n d} h => by
    have h := (va_Zq.moved hal h).kept hq
    rcases h with ⟨cf, kf, fi, f, a, cell, h1, h2, h3, h4, h5, h6, h7, h8⟩ | ⟨t, cf, kf, fi, f, a, cell, h1, h2, h3, h4, h5, h6, h7, h8⟩
    · simp [Cond.before, Cond.holds, Cond.value, Term.eval, State.fieldNamed?, h1, h2, h4, h5, h6, h7, Value.isRef]
    · simp [Cond.before, Cond.holds, Cond.value, Term.eval, State.fieldNamed?, h1, h2, h4, h5, h6, h7, Value.isRef]
  intro w hw
  simp only [stW, List.mem_cons, List.not_mem_nil, or_false] at hw
  rcases hw with rfl | rfl | rfl | rfl
  · exact one h1
  · exact one h2
  · exact two z1
  · exact two z2
def tmS (i : Nat) : Term := if i = 0 then .string "ClogHouse$Reader" 48 else .string "ClogHouse$Reader" 120
set_option maxHeartbeats 4000000 in
theorem st_E {p : Program} {s : State} {m : MethodId} {meth : Method} {c : Code} {b L : Nat} {xs : Nat → Int32} (C0 : lw_At p s m meth c b L xs) {dG : va_G} {dA : Nat → ClassId} (hA : ∀ a, 1 ≤ a → a < 8 → s.vm.findClass (arN.getD a "") = some (dA a)) : ∀ V : State, s.WarmedH V.vm → Ew (dG, dA, s.heap) (fun q => s.heap.size ≤ q) V := by
  obtain ⟨hx, hb, hr, hml, hown, hts, hX, hbl, hlocks, hgv⟩ := C0
  have hta : ∀ w ∈ lw_all, w.before #[Value.ref b] s = true := fun w h => hts w (lw_all_tbl h)
  have hs := flat_of_before _ hgv
  have hAo : ∀ a : Nat, a < s.heap.size → ¬ (fun q => s.heap.size ≤ q) a := fun a ha => Nat.not_le.mpr ha
  have zC : va_Z "java/lang/String" "COMPACT_STRINGS" "Z" (.int 1) (fun q => s.heap.size ≤ q) s s.heap := va_Zof (hts _ q554) (hta _ q85) (va_eqi (hs _ (by decide +kernel))) hAo
  have zU : va_Zq "java/lang/Throwable" "UNASSIGNED_STACK" "[Ljava/lang/StackTraceElement;" (fun q => s.heap.size ≤ q) s s.heap := va_Zqof (hts _ q656) (hta _ q90) (hs _ (by decide +kernel)) hAo
  have zP : va_Zq "java/lang/Throwable" "SUPPRESSED_SENTINEL" "Ljava/util/List;" (fun q => s.heap.size ≤ q) s s.heap := va_Zqof (hts _ q658) (hta _ q90) (hs _ (by decide +kernel)) hAo
  have i2 : ∀ {P : Nat → Prop}, P 0 → P 1 → ∀ i, i < 2 → P i := fun h0 h1 i hi => by
    rcases (show i = 0 ∨ i = 1 by omega) with rfl | rfl
    · exact h0
    · exact h1
  obtain ⟨adK, adV, hK, hT⟩ := vk_Sof (args := #[Value.ref b]) (s := s) (N := 2) (tm := tmS) (len := strLen) (byt := strByt) (A := fun q => s.heap.size ≤ q) (by decide) (i2 (hs _ (by decide +kernel)) (hs _ (by decide +kernel))) (i2 (hs _ (by decide +kernel)) (hs _ (by decide +kernel))) (i2 (hs _ (by decide +kernel)) (hs _ (by decide +kernel))) (i2 (hs _ (by decide +kernel)) (hs _ (by decide +kernel)))
    (fun i hi j hj => hs _ ((by decide +kernel : ∀ i, i < 2 → ∀ j, j < strLen.getD i 0 → (Cond.eq (.elem (.field (tmS i) "java/lang/String" "value" "[B") (.int (Int32.ofNat j))) (.int ((strByt.getD i []).getD j 0))) ∈ flatC (Jvm.Cond.and given_1 narrow_1)) i hi j hj))
    (fun i j hi hj hij => by
      rcases (show (i = 0 ∧ j = 1) ∨ (i = 1 ∧ j = 0) by omega) with ⟨rfl, rfl⟩ | ⟨rfl, rfl⟩
      · exact Or.inl (hs _ (by decide +kernel))
      · exact Or.inr (hs _ (by decide +kernel))) hAo
  have r0 : vk_R "ClogHouse$Reader" 48 "wrcu" (adK 0) s := vk_R.of (hts _ (by decide +kernel)) (hT 0 (by decide))
  have r1 : vk_R "ClogHouse$Reader" 120 "phoink" (adK 1) s := vk_R.of (hts _ (by decide +kernel)) (hT 1 (by decide))
  have r2 : vk_R "ClogHouse" 276 "wrcu" (adK 0) s := by
    refine vk_R.of (hts _ (by decide +kernel)) ?_
    have h1 : (Cond.eq (.string "ClogHouse$Reader" 48) (.string "ClogHouse" 276)).before #[Value.ref b] s = true := hs _ (by decide +kernel)
    exact va_eqR h1 (hT 0 (by decide))
  intro V hW
  refine ⟨fun w hw => ?_, fun a h1 h8 => ?_, adK, adV, vk_S.moved hW.alike hK, vk_R.warm hW r0, vk_R.warm hW r1, vk_R.warm hW r2, va_Z.moved hW.alike zC, va_Zq.moved hW.alike zU, va_Zq.moved hW.alike zP, st_Sst rfl hW.alike (hts _ q656) (hts _ q658) zU zP⟩
  · obtain ⟨hk, h | h⟩ := ew_kinds w hw
    · exact ew_warm hW hk (hts w h)
    · exact ew_warm hW hk (hs w h)
  · rw [hW.alike.findClass]; exact hA a h1 h8
def σ00 : Mem := (fun _ _ => 0, fun _ _ => 0, fun _ _ => none)
def τ00 : Shp := (fun _ => (0, 0), 10000, 0, 0)
theorem gW_00 {D : gD} {A : Nat → Prop} {ad : Nat → Nat} {H : Heap} : gW D A ad (sS τ00) σ00 H := by
  refine ⟨fun i e h => absurd rfl (gC_live h), fun i j h => absurd rfl h, fun i h => absurd rfl h, fun i ci h => ?_, fun i a n h h5 => ?_, fun i ci z h => ?_, fun i => ⟨by show (0 : Nat) ≠ 8; decide, by show (0 : Nat) ≠ 9; decide⟩⟩
  · have := congrArg Prod.fst h
    exact absurd this (by show (0 : Nat) ≠ ci + 10; omega)
  · have := congrArg Prod.fst h
    exact absurd this (by show (0 : Nat) ≠ a; omega)
  · have := congrArg Prod.fst h
    exact absurd this (by show (0 : Nat) ≠ ci + 10; omega)
/-- the whole walk, out of what the law computes -/
theorem whole_of {p : Program} {e : Env} {s : State} {m : MethodId} {below : List Frame} {meth : Method} {c : Code} (l : Launch) (htr : l.stackTraces = false) {b L : Nat} {xs : Nat → Int32} (C0 : lw_At p s m meth c b L xs) (hlaw : f_L_law L xs σ00 τ00 = some 1) : W p l e room_1 s m #[Value.ref b] below meth c s.heap [] 0 0 (lw_Z below #[Value.ref b] s) (entryFrame m ([Value.ref b] : List Value).toArray 7) := by
  obtain ⟨hx, hb, hr, hml, hown, hts, hX, hbl, hlocks, hgv⟩ := id C0
  obtain ⟨dC, dI, dA, hK, hN⟩ := st_K hts
  have hl := lv_entry ([.ref b]) (n := 7) (Nat.le_of_ble_eq_true rfl)
  rw [lg_entry_eq]
  generalize (lg_sl ([.ref b]) ++ List.replicate (7 - (lg_sl ([.ref b])).length) Slot.unset).toArray = ls at hl ⊢
  have hl : lv_has ls 7 [(0, .ref b)] := hl
  exact w_L_law (D := ((dC, dI), dA, s.heap)) (A := fun q => s.heap.size ≤ q) (ad0 := fun _ => 0) ⟨hx, hb, hr, hlocks, hml, hown, fun w h => hts w (lw_all_tbl h), ⟨hK, st_E C0 hN⟩, fun q hq => hq, fun q _ => rfl⟩ hX hbl (Nat.not_le.mpr hbl) (fun q hq => hq) htr ⟨gW_00, va_S.rf⟩ ⟨rfl, rfl, rfl, rfl, by decide, by decide⟩ hl hlaw
