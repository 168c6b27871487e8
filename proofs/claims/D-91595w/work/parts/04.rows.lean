/-! ===== rows over the store that carry the pure run along ===== -/
def FU : Nat := 1000000
section PR
variable {β : Type}
def rdI (σ : Mem) (i n : Nat) (j : Int32) (f : Int32 → Option β) : Option β := gd (inb j n) (f (mI σ i j.toNatClampNeg))
def rdL (σ : Mem) (i n : Nat) (j : Int32) (f : Int64 → Option β) : Option β := gd (inb j n) (f (mL σ i j.toNatClampNeg))
def rdR (σ : Mem) (i n : Nat) (j : Int32) (f : Option Nat → Option β) : Option β := gd (inb j n) (f (mR σ i j.toNatClampNeg))
def rdN (σ : Mem) (i n : Nat) (j : Int32) (f : Nat → Option β) : Option β := gd (inb j n) (bnd (mR σ i j.toNatClampNeg) f)
def wrI (σ : Mem) (i n : Nat) (j v : Int32) (f : Mem → Option β) : Option β := gd (inb j n) (f (setI σ i j.toNatClampNeg v))
def wrZ (σ : Mem) (i n : Nat) (j v : Int32) (f : Mem → Option β) : Option β := gd (inb j n) (gd (isz v) (f (setI σ i j.toNatClampNeg v)))
def wrB (σ : Mem) (i n : Nat) (j v : Int32) (f : Mem → Option β) : Option β := gd (inb j n) (f (setI σ i j.toNatClampNeg v.toInt8.toInt32))
def wrL (σ : Mem) (i n : Nat) (j : Int32) (v : Int64) (f : Mem → Option β) : Option β := gd (inb j n) (f (setL σ i j.toNatClampNeg v))
def wrR (σ : Mem) (i n : Nat) (j : Int32) (v : Option Nat) (f : Mem → Option β) : Option β := gd (inb j n) (f (setR σ i j.toNatClampNeg v))
def getI (σ : Mem) (i k : Nat) (f : Int32 → Option β) : Option β := f (mI σ i k)
def getR (σ : Mem) (i k : Nat) (f : Option Nat → Option β) : Option β := f (mR σ i k)
def getN (σ : Mem) (i k : Nat) (f : Nat → Option β) : Option β := bnd (mR σ i k) f
def putI (σ : Mem) (i k : Nat) (v : Int32) (f : Mem → Option β) : Option β := f (setI σ i k v)
def putZ (σ : Mem) (i k : Nat) (v : Int32) (f : Mem → Option β) : Option β := gd (isz v) (f (setI σ i k v))
def putR (σ : Mem) (i k : Nat) (v : Option Nat) (f : Mem → Option β) : Option β := f (setR σ i k v)
def divI (y : Int32) (f : Option β) : Option β := gd (nz y) f
def divL (y : Int64) (f : Option β) : Option β := gd (nzl y) f
def retZ (v : Int32) : Option Int32 := gd (isz v) (some v)
def retZm (σ : Mem) (v : Int32) : Option (Mem × Int32) := gd (isz v) (some (σ, v))
def bnd3 {α γ δ : Type} (o : Option (α × γ × δ)) (f : α → γ → δ → Option β) : Option β := match o with
  | none => none
  | some a => f a.1 a.2.1 a.2.2
theorem bnd3_el {α γ δ : Type} {o : Option (α × γ × δ)} {f : α → γ → δ → Option β} {r : β} (h : bnd3 o f = some r) : ∃ a b c, o = some (a, b, c) ∧ f a b c = some r := by
  cases o with
  | none => cases h
  | some a => exact ⟨a.1, a.2.1, a.2.2, rfl, h⟩
def bnd4 {α γ δ ε : Type} (o : Option (α × γ × δ × ε)) (f : α → γ → δ → ε → Option β) : Option β := match o with
  | none => none
  | some a => f a.1 a.2.1 a.2.2.1 a.2.2.2
theorem bnd4_el {α γ δ ε : Type} {o : Option (α × γ × δ × ε)} {f : α → γ → δ → ε → Option β} {r : β} (h : bnd4 o f = some r) : ∃ a b c d, o = some (a, b, c, d) ∧ f a b c d = some r := by
  cases o with
  | none => cases h
  | some a => exact ⟨a.1, a.2.1, a.2.2.1, a.2.2.2, rfl, h⟩
end PR
def ewL : List Cond := [
  (Jvm.Cond.declares ({ cls := "java/lang/Throwable", name := "<init>", desc := "()V" } : Jvm.MethodName)),
  (Jvm.Cond.declares ({ cls := "java/lang/Throwable", name := "<init>", desc := "(Ljava/lang/String;)V" } : Jvm.MethodName)),
  (Jvm.Cond.declares ({ cls := "java/lang/Exception", name := "<init>", desc := "()V" } : Jvm.MethodName)),
  (Jvm.Cond.declares ({ cls := "java/lang/Exception", name := "<init>", desc := "(Ljava/lang/String;)V" } : Jvm.MethodName)),
  (Jvm.Cond.declares ({ cls := "java/lang/RuntimeException", name := "<init>", desc := "()V" } : Jvm.MethodName)),
  (Jvm.Cond.declares ({ cls := "java/lang/RuntimeException", name := "<init>", desc := "(Ljava/lang/String;)V" } : Jvm.MethodName)),
  (Jvm.Cond.castable "java/util/NoSuchElementException" "java/util/NoSuchElementException"),
  (Jvm.Cond.methodLinkNest "ClogHouse" (17 : Nat) ({ cls := "ClogHouse$Grains", name := "<init>", desc := "()V" } : Jvm.MethodName) "ClogHouse"),
  (Jvm.Cond.fieldLinkNest "ClogHouse" (123 : Nat) "ClogHouse$Grains" "stick" "[I" "ClogHouse"),
  (Jvm.Cond.fieldLinkNest "ClogHouse" (126 : Nat) "ClogHouse$Grains" "off" "[I" "ClogHouse"),
  (Jvm.Cond.fieldLinkNest "ClogHouse" (129 : Nat) "ClogHouse$Grains" "stay" "[I" "ClogHouse"),
  (Jvm.Cond.methodLinkNest "ClogHouse" (97 : Nat) ({ cls := "ClogHouse$Filter", name := "<init>", desc := "()V" } : Jvm.MethodName) "ClogHouse"),
  (Jvm.Cond.fieldLinkNest "ClogHouse" (156 : Nat) "ClogHouse$Filter" "cells" "[LClogHouse$Cell;" "ClogHouse"),
  (Jvm.Cond.fieldLinkNest "ClogHouse" (202 : Nat) "ClogHouse$Filter" "cake" "LClogHouse$Cake;" "ClogHouse"),
  (Jvm.Cond.fieldLinkNest "ClogHouse" (164 : Nat) "ClogHouse$Filter" "set" "[I" "ClogHouse"),
  (Jvm.Cond.fieldLinkNest "ClogHouse" (330 : Nat) "ClogHouse$Filter" "gets" "[I" "ClogHouse"),
  (Jvm.Cond.fieldLinkNest "ClogHouse" (147 : Nat) "ClogHouse$Filter" "cellMany" "I" "ClogHouse"),
  (Jvm.Cond.fieldLinkNest "ClogHouse" (193 : Nat) "ClogHouse$Filter" "state" "I" "ClogHouse"),
  (Jvm.Cond.fieldLinkNest "ClogHouse" (196 : Nat) "ClogHouse$Filter" "since" "I" "ClogHouse"),
  (Jvm.Cond.fieldLinkNest "ClogHouse" (199 : Nat) "ClogHouse$Filter" "washes" "I" "ClogHouse"),
  (Jvm.Cond.fieldLinkNest "ClogHouse" (216 : Nat) "ClogHouse$Filter" "share" "I" "ClogHouse"),
  (Jvm.Cond.fieldLinkNest "ClogHouse" (219 : Nat) "ClogHouse$Filter" "push" "I" "ClogHouse"),
  (Jvm.Cond.fieldLinkNest "ClogHouse" (222 : Nat) "ClogHouse$Filter" "out" "I" "ClogHouse"),
  (Jvm.Cond.fieldLinkNest "ClogHouse" (347 : Nat) "ClogHouse$Filter" "best" "I" "ClogHouse"),
  (Jvm.Cond.fieldLinkNest "ClogHouse" (350 : Nat) "ClogHouse$Filter" "bestOut" "I" "ClogHouse"),
  (Jvm.Cond.fieldLinkNest "ClogHouse" (337 : Nat) "ClogHouse$Filter" "weight" "I" "ClogHouse"),
  (Jvm.Cond.fieldLinkNest "ClogHouse" (152 : Nat) "ClogHouse$Filter" "hasRun" "Z" "ClogHouse"),
  (Jvm.Cond.fieldLinkNest "ClogHouse" (272 : Nat) "ClogHouse$Filter" "rules" "LClogHouse$Clause;" "ClogHouse"),
  (Jvm.Cond.fieldLinkNest "ClogHouse" (174 : Nat) "ClogHouse$Cell" "take" "I" "ClogHouse"),
  (Jvm.Cond.fieldLinkNest "ClogHouse" (190 : Nat) "ClogHouse$Cell" "stuck" "[I" "ClogHouse"),
  (Jvm.Cond.fieldLinkNest "ClogHouse" (171 : Nat) "ClogHouse$Cell" "pore" "I" "ClogHouse"),
  (Jvm.Cond.fieldLinkNest "ClogHouse" (263 : Nat) "ClogHouse$Wrong" "at" "I" "ClogHouse"),
  (Jvm.Cond.castable "ClogHouse$Several" "ClogHouse$Condition"),
  (Jvm.Cond.unhidden "ClogHouse$Several" "holds" "([I)Z"),
  (Jvm.Cond.publicMethod ({ cls := "ClogHouse$Several", name := "holds", desc := "([I)Z" } : Jvm.MethodName)),
  (Jvm.Cond.castable "ClogHouse$Not" "ClogHouse$Condition"),
  (Jvm.Cond.unhidden "ClogHouse$Not" "holds" "([I)Z"),
  (Jvm.Cond.publicMethod ({ cls := "ClogHouse$Not", name := "holds", desc := "([I)Z" } : Jvm.MethodName)),
  (Jvm.Cond.declares ({ cls := "ClogHouse$Sum", name := "of", desc := "([I)I" } : Jvm.MethodName)),
  (Jvm.Cond.methodLinkNest "ClogHouse$Chain" (1 : Nat) ({ cls := "ClogHouse$Sum", name := "<init>", desc := "()V" } : Jvm.MethodName) "ClogHouse"),
  (Jvm.Cond.fieldLinkNest "ClogHouse$Chain" (32 : Nat) "ClogHouse$Link" "sum" "LClogHouse$Sum;" "ClogHouse"),
  (Jvm.Cond.fieldLinkNest "ClogHouse$Chain" (25 : Nat) "ClogHouse$Link" "next" "LClogHouse$Link;" "ClogHouse"),
  (Jvm.Cond.methodLinkNest "ClogHouse$Plain" (1 : Nat) ({ cls := "ClogHouse$Sum", name := "<init>", desc := "()V" } : Jvm.MethodName) "ClogHouse"),
  (Jvm.Cond.methodLinkNest "ClogHouse$Letter" (1 : Nat) ({ cls := "ClogHouse$Sum", name := "<init>", desc := "()V" } : Jvm.MethodName) "ClogHouse"),
  (Jvm.Cond.methodLinkNest "ClogHouse$Link" (17 : Nat) ({ cls := "ClogHouse", name := "bound", desc := "(J)I" } : Jvm.MethodName) "ClogHouse"),
  (Jvm.Cond.castable "ClogHouse$Compare" "ClogHouse$Condition"),
  (Jvm.Cond.unhidden "ClogHouse$Compare" "holds" "([I)Z"),
  (Jvm.Cond.publicMethod ({ cls := "ClogHouse$Compare", name := "holds", desc := "([I)Z" } : Jvm.MethodName)),
  (Jvm.Cond.declares ({ cls := "ClogHouse$Holds", name := "all", desc := "()I" } : Jvm.MethodName)),
  (Jvm.Cond.publicMethod ({ cls := "ClogHouse$Holds", name := "all", desc := "()I" } : Jvm.MethodName)),
  (Jvm.Cond.interfaceMethod "ClogHouse$Holds" "ClogHouse$Holds" "of" "(I)I"),
  (Jvm.Cond.declares ({ cls := "ClogHouse$Holds", name := "of", desc := "(I)I" } : Jvm.MethodName)),
  (Jvm.Cond.methodLinkNest "ClogHouse$Filter" (19 : Nat) ({ cls := "ClogHouse$Cake", name := "<init>", desc := "()V" } : Jvm.MethodName) "ClogHouse"),
  (Jvm.Cond.fieldLinkNest "ClogHouse$Filter" (84 : Nat) "ClogHouse$Cell" "pore" "I" "ClogHouse"),
  (Jvm.Cond.publicMethod ({ cls := "ClogHouse$Part", name := "of", desc := "(I)I" } : Jvm.MethodName)),
  (Jvm.Cond.declares ({ cls := "ClogHouse$Part", name := "empties", desc := "([I)V" } : Jvm.MethodName)),
  (Jvm.Cond.declares ({ cls := "ClogHouse$Part", name := "of", desc := "(I)I" } : Jvm.MethodName)),
  (Jvm.Cond.methodLinkNest "ClogHouse$Cake" (1 : Nat) ({ cls := "ClogHouse$Part", name := "<init>", desc := "()V" } : Jvm.MethodName) "ClogHouse"),
  (Jvm.Cond.castable "ClogHouse$Cake" "ClogHouse$Holds"),
  (Jvm.Cond.unhidden "ClogHouse$Cake" "of" "(I)I"),
  (Jvm.Cond.unhidden "ClogHouse$Cake" "all" "()I"),
  (Jvm.Cond.fieldLinkNest "ClogHouse$Cell" (57 : Nat) "ClogHouse$Grains" "off" "[I" "ClogHouse"),
  (Jvm.Cond.fieldLinkNest "ClogHouse$Cell" (52 : Nat) "ClogHouse$Grains" "stay" "[I" "ClogHouse"),
  (Jvm.Cond.methodLinkNest "ClogHouse$Cell" (3 : Nat) ({ cls := "ClogHouse$Part", name := "<init>", desc := "()V" } : Jvm.MethodName) "ClogHouse"),
  (Jvm.Cond.unhidden "ClogHouse$Cell" "all" "()I"),
  (Jvm.Cond.castable "ClogHouse$Cell" "ClogHouse$Holds"),
  (Jvm.Cond.unhidden "ClogHouse$Cell" "of" "(I)I"),
  (Jvm.Cond.fieldLinkNest "ClogHouse$Reader" (83 : Nat) "ClogHouse$Several" "next" "LClogHouse$Several;" "ClogHouse"),
  (Jvm.Cond.fieldLinkNest "ClogHouse$Reader" (42 : Nat) "ClogHouse$Clause" "next" "LClogHouse$Clause;" "ClogHouse"),
  (Jvm.Cond.castable "ClogHouse$Wrong" "ClogHouse$Wrong"),
  (Jvm.Cond.interfaceMethod "ClogHouse$Condition" "ClogHouse$Condition" "holds" "([I)Z"),
  (Jvm.Cond.declares ({ cls := "ClogHouse$Condition", name := "holds", desc := "([I)Z" } : Jvm.MethodName)),
  (Jvm.Cond.arrayOver (Jvm.ClassFile.FieldType.object "ClogHouse$Filter")),
  (Jvm.Cond.arrayOver (Jvm.ClassFile.FieldType.object "ClogHouse$Clause")),
  (Jvm.Cond.arrayOver (Jvm.ClassFile.FieldType.object "ClogHouse$Cell")),
  (Jvm.Cond.methodLink "ClogHouse$Cell" (31 : Nat) ({ cls := "ClogHouse$Cell", name := "all", desc := "()I" } : Jvm.MethodName)),
  (Jvm.Cond.methodLink "ClogHouse" (184 : Nat) ({ cls := "ClogHouse$Cell", name := "all", desc := "()I" } : Jvm.MethodName)),
  (Jvm.Cond.methodLink "ClogHouse" (206 : Nat) ({ cls := "ClogHouse$Cake", name := "all", desc := "()I" } : Jvm.MethodName)),
  (Jvm.Cond.methodLink "ClogHouse$Cake" (7 : Nat) ({ cls := "ClogHouse$Cake", name := "all", desc := "()I" } : Jvm.MethodName)),
  (Jvm.Cond.landsInDefault "ClogHouse$Cell" ({ cls := "ClogHouse$Cell", name := "all", desc := "()I" } : Jvm.MethodName) ({ cls := "ClogHouse$Holds", name := "all", desc := "()I" } : Jvm.MethodName)),
  (Jvm.Cond.landsInDefault "ClogHouse$Cake" ({ cls := "ClogHouse$Cake", name := "all", desc := "()I" } : Jvm.MethodName) ({ cls := "ClogHouse$Holds", name := "all", desc := "()I" } : Jvm.MethodName)),
  (Jvm.Cond.sameMethod "ClogHouse$Cell" "ClogHouse$Holds" "all" "()I"),
  (Jvm.Cond.sameMethod "ClogHouse$Cake" "ClogHouse$Holds" "all" "()I")]
def strLen : List Nat := [4, 6]
def strByt : List (List Int32) := [[119, 114, 99, 117], [112, 104, 111, 105, 110, 107]]
/-- the names of the array classes -/
def arN : List String := ["", "[I", "[B", "[Z", "[J", "[LClogHouse$Filter;", "[LClogHouse$Cell;", "[LClogHouse$Clause;"]
/-- what the throw of a JDK exception needs of the statics -/
def stW : List Cond := [.laysStatic "java/lang/Throwable" "UNASSIGNED_STACK" "[Ljava/lang/StackTraceElement;", .laysStatic "java/lang/Throwable" "SUPPRESSED_SENTINEL" "Ljava/util/List;", .isRef (.static "java/lang/Throwable" "UNASSIGNED_STACK" "[Ljava/lang/StackTraceElement;"), .isRef (.static "java/lang/Throwable" "SUPPRESSED_SENTINEL" "Ljava/util/List;")]
def Sst (D : gD) (A : Nat → Prop) (V : State) : Prop := ∀ (U : State) (as : Array Value), V.vm.Alike U.vm → (∀ q, ¬ A q → U.heap[q]? = D.2.2[q]?) → ∀ w ∈ stW, w.before as U = true
def Ew (D : gD) (A : Nat → Prop) (V : State) : Prop := (∀ w ∈ ewL, va_Nw w V) ∧ (∀ a, 1 ≤ a → a < 8 → V.vm.findClass (arN.getD a "") = some (D.2.1 a)) ∧ ∃ adK adV : Nat → Nat, vk_S 2 strLen strByt adK adV A V D.2.2 ∧ vk_R "ClogHouse$Reader" 48 "wrcu" (adK 0) V ∧ vk_R "ClogHouse$Reader" 120 "phoink" (adK 1) V ∧ vk_R "ClogHouse" 276 "wrcu" (adK 0) V ∧ va_Z "java/lang/String" "COMPACT_STRINGS" "Z" (.int 1) A V D.2.2 ∧ va_Zq "java/lang/Throwable" "UNASSIGNED_STACK" "[Ljava/lang/StackTraceElement;" A V D.2.2 ∧ va_Zq "java/lang/Throwable" "SUPPRESSED_SENTINEL" "Ljava/util/List;" A V D.2.2 ∧ Sst D A V
theorem Kx.now {D : gD} {E : State → Prop} {s : State} (h : Kx D E s) : E s := h.2 s (State.WarmedH.refl s)
/-- a field's link, plain or through the nest -/
def FLk (own : String) (idx : Nat) (T : u_T) (k : Nat) : Prop :=
  (∃ ref, Cond.fieldLink own idx ref (T k).2.1 (T k).2.2.1 ∈ lw_all ∧ (ref = (T k).1 ∨ Cond.sameField ref (T k).1 (T k).2.1 (T k).2.2.1 ∈ lw_all)) ∨
  (∃ ref host, Cond.fieldLinkNest own idx ref (T k).2.1 (T k).2.2.1 host ∈ ewL ∧ (ref = (T k).1 ∨ Cond.sameField ref (T k).1 (T k).2.1 (T k).2.2.1 ∈ lw_all))
theorem FLk.same {ref : String} {T : u_T} {k : Nat} {args : Array Value} {s : State} (hts : ∀ w ∈ lw_all, w.before args s = true) (h : ref = (T k).1 ∨ Cond.sameField ref (T k).1 (T k).2.1 (T k).2.2.1 ∈ lw_all) : ∀ x, s.fieldFound? (T k).1 (T k).2.1 (T k).2.2.1 = some x → s.fieldFound? ref (T k).2.1 (T k).2.2.1 = some x := by
  intro x hx
  rcases h with rfl | h
  · exact hx
  · exact u_same (hts _ h) x hx
section HR
variable {p : Program} {l : Launch} {e : Env} {R : Room} {s : State} {m : MethodId} {args : Array Value} {below : List Frame} {meth : Method} {c : Code} {H : Heap} {locs : List Loc} {cells slots : Nat} {Q : State → Prop}
variable {cc : ByteArray} {nL : Nat} {ret : Option FieldType} {pc : Nat} {ls : Array Slot} {rest : List Value} {D : gD} {A : Nat → Prop} {ad : Nat → Nat} {S : Nat → Nat × Nat} {σ : Mem} {own : String} {i : Nat} {ρ : Type} {r : ρ}
/-- a field's value, whatever it is -/
theorem h_get {idx ci k N z : Nat} {Cn : String} {T : u_T} {ty : Nat → FieldType} {v : Value} {V : Nat → Value} (Z : Cz D (Ew D A) A cc nL ret own p s m args meth c) (hS : St D A ad S σ s.heap H locs) (K : CLS ci Cn T N ty) (hsh : S i = (ci + 10, z)) (hg : gC D.2.1 ad S σ i = some (.inr (ci, V))) (hk : k < N) (hv : V k = v) (hl : FLk own idx T k) (hd : decode cc pc = .ok (.getfield idx, 3))
    (kk : W p l e R s m args below meth c H locs cells slots Q (F0 m (pc + 3) ls (v :: rest))) : W p l e R s m args below meth c H locs cells slots Q (F0 m pc ls (.ref (ad i) :: rest)) := by
  obtain ⟨hx, hb, -, -, -, hown, hts, hK, -⟩ := Z
  obtain ⟨q, h1, cell, q1, q2, q3, q4⟩ := hS.1.1 i _ hg
  have hr : q = (Cn, T, N) := Option.some.inj (h1.symm.trans K.1)
  subst hr
  obtain ⟨hSl, hfc, kC, hkC, hkind⟩ := hK.1.1 ci _ K.1
  obtain ⟨cf, kf, fi, f, hi, hsl⟩ := hSl k hk
  have hst := (u_facts hfc hkC (u_lays hts K.2.1 hk) hi).1
  have hval : cell.slots[f.slot]? = some v := by rw [hsl, q4 k hk]; exact congrArg some hv
  rcases hl with ⟨ref, hlk, hsm⟩ | ⟨ref, host, hlk, hsm⟩
  · exact W.getf hx hb hown (hts _ hlk) (FLk.same hts hsm _ hi) hst q1 (by rw [q3]; exact fun h => by cases h) (v := v) hval rfl rfl hd kk
  · exact va_Wgetf hx hb hown (va_Nw.use rfl (hK.now.1 _ hlk)) (FLk.same hts hsm _ hi) hst q1 (by rw [q3]; exact fun h => by cases h) (v := v) hval rfl rfl hd kk
theorem h_getI {idx ci k N : Nat} {Cn : String} {T : u_T} {ty : Nat → FieldType} {f : Int32 → Option ρ} (Z : Cz D (Ew D A) A cc nL ret own p s m args meth c) (hS : St D A ad S σ s.heap H locs) (K : CLS ci Cn T N ty) (hsh : S i = (ci + 10, 0)) (hk : k < N) (hf : fk ci k = 0) (hl : FLk own idx T k) (hd : decode cc pc = .ok (.getfield idx, 3)) (h : getI σ i k f = some r)
    (kk : ∀ x : Int32, f x = some r → W p l e R s m args below meth c H locs cells slots Q (F0 m (pc + 3) ls (.int x :: rest))) : W p l e R s m args below meth c H locs cells slots Q (F0 m pc ls (.ref (ad i) :: rest)) :=
  h_get Z hS K hsh (gC_o hsh) hk (by unfold gV; rw [hf]) hl hd (kk _ h)
/-- a constant part of an object -/
theorem h_getC {idx ci k N n j : Nat} {sh : Nat × Nat} {Cn : String} {T : u_T} {ty : Nat → FieldType} (Z : Cz D (Ew D A) A cc nL ret own p s m args meth c) (hS : St D A ad S σ s.heap H locs) (K : CLS ci Cn T N ty) (hsh : S i = (ci + 10, 0)) (hk : k < N) (hf : fk ci k = n + 2) (hj : i + n = j) (he : shF ci k = sh) (hl : FLk own idx T k) (hd : decode cc pc = .ok (.getfield idx, 3))
    (kk : S j = sh → W p l e R s m args below meth c H locs cells slots Q (F0 m (pc + 3) ls (.ref (ad j) :: rest))) : W p l e R s m args below meth c H locs cells slots Q (F0 m pc ls (.ref (ad i) :: rest)) := by
  subst hj
  subst he
  exact h_get Z hS K hsh (gC_o hsh) hk (by unfold gV; rw [hf]) hl hd (kk ((hS.1.2.2.2.1 i ci hsh k).2 n hf))
/-- a reference field that must not be null -/
theorem h_getN {idx ci k N : Nat} {sh : Nat × Nat} {Cn : String} {T : u_T} {ty : Nat → FieldType} {f : Nat → Option ρ} (Z : Cz D (Ew D A) A cc nL ret own p s m args meth c) (hS : St D A ad S σ s.heap H locs) (K : CLS ci Cn T N ty) (hsh : S i = (ci + 10, 0)) (hk : k < N) (hf : fk ci k = 1) (he : okL ci k = [sh]) (hl : FLk own idx T k) (hd : decode cc pc = .ok (.getfield idx, 3)) (h : getN σ i k f = some r)
    (kk : ∀ j : Nat, S j = sh → f j = some r → W p l e R s m args below meth c H locs cells slots Q (F0 m (pc + 3) ls (.ref (ad j) :: rest))) : W p l e R s m args below meth c H locs cells slots Q (F0 m pc ls (.ref (ad i) :: rest)) := by
  obtain ⟨j, hj, h⟩ := bnd_el h
  have ht := ((hS.1.2.2.2.1 i ci hsh k).1 hf j hj)
  rw [he, List.mem_singleton] at ht
  exact h_get Z hS K hsh (gC_o hsh) hk (by unfold gV; rw [hf]; show va_rf ((mR σ i k).map ad) = _; rw [hj]; rfl) hl hd (kk j ht h)
/-- a reference field that may be null, asked at once -/
theorem h_getQ {idx ci k N : Nat} {Cn : String} {T : u_T} {ty : Nat → FieldType} {f : Option Nat → Option ρ} (Z : Cz D (Ew D A) A cc nL ret own p s m args meth c) (hS : St D A ad S σ s.heap H locs) (K : CLS ci Cn T N ty) (hsh : S i = (ci + 10, 0)) (hk : k < N) (hf : fk ci k = 1) (hl : FLk own idx T k) (hd : decode cc pc = .ok (.getfield idx, 3)) (h : getR σ i k f = some r)
    (kk : ∀ o : Option Nat, (∀ t, o = some t → S t ∈ okL ci k) → f o = some r → W p l e R s m args below meth c H locs cells slots Q (F0 m (pc + 3) ls (va_rf (o.map ad) :: rest))) : W p l e R s m args below meth c H locs cells slots Q (F0 m pc ls (.ref (ad i) :: rest)) :=
  h_get Z hS K hsh (gC_o hsh) hk (by unfold gV; rw [hf]) hl hd (kk _ (fun t ht => (hS.1.2.2.2.1 i ci hsh k).1 hf t ht) h)
/-- a field is written -/
theorem h_put {idx ci k N z : Nat} {Cn : String} {T : u_T} {ty : Nat → FieldType} {v : Value} {σ' : Mem} {ft : FieldType} {V V' : Nat → Value} (Z : Cz D (Ew D A) A cc nL ret own p s m args meth c) (hS : St D A ad S σ s.heap H locs) (K : CLS ci Cn T N ty) (hsh : S i = (ci + 10, z)) (hg : gC D.2.1 ad S σ i = some (.inr (ci, V))) (hg' : gC D.2.1 ad S σ' i = some (.inr (ci, V'))) (hk : k < N) (hfin : (T k).2.2.2 = false) (hty : ty k = ft) (hn : narrow ft v = v) (hfit : fits ft v = true)
    (hv : V' = updV V k v) (ho : ∀ j, j ≠ i → gC D.2.1 ad S σ' j = gC D.2.1 ad S σ j) (hT : gT S σ') (hl : FLk own idx T k) (hd : decode cc pc = .ok (.putfield idx, 3))
    (kk : ∀ (H1 : Heap) (locs1 : List Loc), St D A ad S σ' s.heap H1 locs1 → W p l e R s m args below meth c H1 locs1 cells slots Q (F0 m (pc + 3) ls rest)) : W p l e R s m args below meth c H locs cells slots Q (F0 m pc ls (v :: .ref (ad i) :: rest)) := by
  obtain ⟨hx, hb, -, -, -, hown, hts, hK, -⟩ := Z
  have hap := va_apart (own := own) hts K.2.1 ty K.2.2.1 K.2.2.2 hK.1 K.1
  obtain ⟨q, h1, cell, q1, q2, q3, q4⟩ := hS.1.1 i _ hg
  have hr : q = (Cn, T, N) := Option.some.inj (h1.symm.trans K.1)
  subst hr
  obtain ⟨hSl, hfc, kC, hkC, hkind⟩ := hK.1.1 ci _ K.1
  obtain ⟨cf, kf, fi, f, hi, hsl⟩ := hSl k hk
  have hlay := hts _ (K.2.1 _ (u_in_lay hk))
  unfold u_lay at hlay
  rw [if_neg (by rw [hfin]; decide)] at hlay
  have hst := (u_facts hfc hkC (u_lays hts K.2.1 hk) hi).1
  have h6 := u_store hfc hkC hkind hlay hi ((K.2.2.1 k hk).trans (congrArg some hty)) hn hfit
  have fin : ∀ H' : Heap, H'[ad i]? = some (cell.setSlot f.slot v) → H'.size = H.size → (∀ q, q ≠ ad i → H'[q]? = H[q]?) → W p l e R s m args below meth c H' (locs ++ [⟨ad i, f.slot⟩]) cells slots Q (F0 m (pc + 3) ls rest) := by
    intro H' e1 e2 e3
    rw [hsl] at e1 ⊢
    refine kk H' _ ⟨hS.1.upd hg' ho hT ⟨_, K.1, ?_⟩ e3, hS.2.put e2 e3 (hS.1.2.2.1 i (gC_live hg))⟩
    rw [hv]
    exact t_OB.to (V := updV V k v) ⟨_, e1, q2, q3, t_set q4 hap hk v⟩ (fun j _ => rfl)
  rcases hl with ⟨ref, hlk, hsm⟩ | ⟨ref, host, hlk, hsm⟩
  · exact W.putK hx hb (f := f) ⟨hown, hts _ hlk, ⟨_, _, _, FLk.same hts hsm _ hi⟩, hst⟩ (by rw [q2]; exact h6) q1 q3 (by rw [hsl]; exact k2_hasslot (q4 k hk)) rfl rfl hd fin
  · exact va_WputK hx hb (f := f) hown (va_Nw.use rfl (hK.now.1 _ hlk)) (FLk.same hts hsm _ hi) hst (by rw [q2]; exact h6) q1 q3 (by rw [hsl]; exact k2_hasslot (q4 k hk)) rfl rfl hd fin
theorem h_putI {idx ci k N : Nat} {Cn : String} {T : u_T} {ty : Nat → FieldType} {v : Int32} {f : Mem → Option ρ} (Z : Cz D (Ew D A) A cc nL ret own p s m args meth c) (hS : St D A ad S σ s.heap H locs) (K : CLS ci Cn T N ty) (hsh : S i = (ci + 10, 0)) (hk : k < N) (hf : fk ci k = 0) (hfin : (T k).2.2.2 = false) (hty : ty k = .int) (hl : FLk own idx T k) (hd : decode cc pc = .ok (.putfield idx, 3)) (h : putI σ i k v f = some r)
    (kk : ∀ (σ' : Mem) (H1 : Heap) (locs1 : List Loc), St D A ad S σ' s.heap H1 locs1 → f σ' = some r → W p l e R s m args below meth c H1 locs1 cells slots Q (F0 m (pc + 3) ls rest)) : W p l e R s m args below meth c H locs cells slots Q (F0 m pc ls (.int v :: .ref (ad i) :: rest)) :=
  h_put Z hS K hsh (gC_o hsh) (gC_o hsh) hk hfin hty rfl rfl (gV_setI hf) gC_setI hS.1.2.2.2 hl hd (fun H1 locs1 hS => kk _ H1 locs1 hS h)
theorem h_putZ {idx ci k N : Nat} {Cn : String} {T : u_T} {ty : Nat → FieldType} {v : Int32} {f : Mem → Option ρ} (Z : Cz D (Ew D A) A cc nL ret own p s m args meth c) (hS : St D A ad S σ s.heap H locs) (K : CLS ci Cn T N ty) (hsh : S i = (ci + 10, 0)) (hk : k < N) (hf : fk ci k = 0) (hfin : (T k).2.2.2 = false) (hty : ty k = .boolean) (hl : FLk own idx T k) (hd : decode cc pc = .ok (.putfield idx, 3)) (h : putZ σ i k v f = some r)
    (kk : ∀ (σ' : Mem) (H1 : Heap) (locs1 : List Loc), St D A ad S σ' s.heap H1 locs1 → f σ' = some r → W p l e R s m args below meth c H1 locs1 cells slots Q (F0 m (pc + 3) ls rest)) : W p l e R s m args below meth c H locs cells slots Q (F0 m pc ls (.int v :: .ref (ad i) :: rest)) := by
  obtain ⟨hz, h⟩ := gd_el h
  exact h_put Z hS K hsh (gC_o hsh) (gC_o hsh) hk hfin hty (isz_nar hz) (isz_fit hz) (gV_setI hf) gC_setI hS.1.2.2.2 hl hd (fun H1 locs1 hS => kk _ H1 locs1 hS h)
theorem gT_setR {S : Nat → Nat × Nat} {σ : Mem} {i k : Nat} {v : Option Nat} (h : gT S σ) (h1 : ∀ ci, S i = (ci + 10, 0) → fk ci k = 1 → ∀ t, v = some t → S t ∈ okL ci k) (h2 : ∀ a n, S i = (a, n) → 5 ≤ a → a < 8 → ∀ t, v = some t → S t = elK a) (h3 : ∀ ci z, S i = (ci + 10, z + 1) → ∀ t, v = some t → (S t).1 ≠ 0) : gT S (setR σ i k v) := by
  refine ⟨fun j ci hj k' => ⟨fun hf t ht => ?_, fun n hf => (h.1 j ci hj k').2 n hf⟩, fun j a n hj h5 h8 k' t ht => ?_, fun j ci z hj k' t ht => ?_, h.2.2.2⟩
  · rw [mR_setR] at ht
    by_cases hq : j = i ∧ k' = k
    · rw [if_pos hq] at ht
      obtain ⟨rfl, rfl⟩ := hq
      exact h1 ci hj hf t ht
    · rw [if_neg hq] at ht
      exact (h.1 j ci hj k').1 hf t ht
  · rw [mR_setR] at ht
    by_cases hq : j = i ∧ k' = k
    · rw [if_pos hq] at ht
      obtain ⟨rfl, rfl⟩ := hq
      exact h2 a n hj h5 h8 t ht
    · rw [if_neg hq] at ht
      exact h.2.1 j a n hj h5 h8 k' t ht
  · rw [mR_setR] at ht
    by_cases hq : j = i ∧ k' = k
    · rw [if_pos hq] at ht
      obtain ⟨rfl, rfl⟩ := hq
      exact h3 ci z hj t ht
    · rw [if_neg hq] at ht
      exact h.2.2.1 j ci z hj k' t ht
theorem gV_setR {ad : Nat → Nat} {σ : Mem} {i ci k : Nat} {v : Option Nat} (hf : fk ci k = 1) : gV ad (setR σ i k v) i ci = updV (gV ad σ i ci) k (va_rf (v.map ad)) := by
  funext j
  unfold updV
  by_cases hj : j = k
  · subst hj
    rw [if_pos rfl]
    unfold gV
    rw [hf]
    simp [mR_setR]
  · rw [if_neg hj]
    unfold gV
    rw [mI_setR]
    simp [mR_setR, hj]
theorem gC_setR {d : Nat → ClassId} {ad : Nat → Nat} {S : Nat → Nat × Nat} {σ : Mem} {i k : Nat} {v : Option Nat} : ∀ j, j ≠ i → gC d ad S (setR σ i k v) j = gC d ad S σ j := fun j hj => gC_same rfl rfl (mR_ne σ k v hj)
theorem rf_nar {C : String} {o : Option Nat} : narrow (.object C) (va_rf o) = va_rf o ∧ fits (.object C) (va_rf o) = true := by
  cases o with
  | none => exact ⟨rfl, rfl⟩
  | some a => exact ⟨rfl, rfl⟩
theorem h_putR {idx ci k N : Nat} {Cn C : String} {T : u_T} {ty : Nat → FieldType} {v : Option Nat} {w : Value} {f : Mem → Option ρ} (Z : Cz D (Ew D A) A cc nL ret own p s m args meth c) (hS : St D A ad S σ s.heap H locs) (K : CLS ci Cn T N ty) (hsh : S i = (ci + 10, 0)) (hk : k < N) (hf : fk ci k = 1) (hfin : (T k).2.2.2 = false) (hty : ty k = .object C) (hw : va_rf (v.map ad) = w) (ht : ∀ t, v = some t → S t ∈ okL ci k) (hl : FLk own idx T k) (hd : decode cc pc = .ok (.putfield idx, 3)) (h : putR σ i k v f = some r)
    (kk : ∀ (σ' : Mem) (H1 : Heap) (locs1 : List Loc), St D A ad S σ' s.heap H1 locs1 → f σ' = some r → W p l e R s m args below meth c H1 locs1 cells slots Q (F0 m (pc + 3) ls rest)) : W p l e R s m args below meth c H locs cells slots Q (F0 m pc ls (w :: .ref (ad i) :: rest)) := by
  subst hw
  refine h_put Z hS K hsh (gC_o hsh) (gC_o hsh) hk hfin hty rf_nar.1 rf_nar.2 (gV_setR hf) gC_setR (gT_setR hS.1.2.2.2 (fun ci' hc hf' t h' => ?_) (fun a n hc h5 h8 t h' => ?_) (fun ci' z hc t h' => ?_)) hl hd (fun H1 locs1 hS => kk _ H1 locs1 hS h)
  · have : ci' = ci := by
      have := congrArg Prod.fst (hc.symm.trans hsh)
      simp at this
      exact this
    subst this
    exact ht t h'
  · rw [hsh] at hc
    have := congrArg Prod.fst hc
    simp at this
    omega
  · rw [hsh] at hc
    have := congrArg Prod.snd hc
    simp at this
/-! arrays -/
theorem h_iald {n : Nat} {j : Int32} {f : Int32 → Option ρ} (Z : Cz D (Ew D A) A cc nL ret own p s m args meth c) (hS : St D A ad S σ s.heap H locs) (hsh : S i = (1, n)) (hd : decode cc pc = .ok (.iaload, 1)) (h : rdI σ i n j f = some r)
    (kk : ∀ x : Int32, f x = some r → W p l e R s m args below meth c H locs cells slots Q (F0 m (pc + 1) ls (.int x :: rest))) : W p l e R s m args below meth c H locs cells slots Q (F0 m pc ls (.int j :: .ref (ad i) :: rest)) :=
  y_iald Z.1 Z.2.1 Z.2.2.2.2.2 hS hsh (gd_el h).1 hd (kk _ (gd_el h).2)
theorem h_bald {n : Nat} {j : Int32} {f : Int32 → Option ρ} (Z : Cz D (Ew D A) A cc nL ret own p s m args meth c) (hS : St D A ad S σ s.heap H locs) (hsh : S i = (2, n)) (hd : decode cc pc = .ok (.baload, 1)) (h : rdI σ i n j f = some r)
    (kk : ∀ x : Int32, f x = some r → W p l e R s m args below meth c H locs cells slots Q (F0 m (pc + 1) ls (.int x :: rest))) : W p l e R s m args below meth c H locs cells slots Q (F0 m pc ls (.int j :: .ref (ad i) :: rest)) :=
  y_bald Z.1 Z.2.1 Z.2.2.2.2.2 hS hsh (gd_el h).1 hd (kk _ (gd_el h).2)
theorem h_zald {n : Nat} {j : Int32} {f : Int32 → Option ρ} (Z : Cz D (Ew D A) A cc nL ret own p s m args meth c) (hS : St D A ad S σ s.heap H locs) (hsh : S i = (3, n)) (hd : decode cc pc = .ok (.baload, 1)) (h : rdI σ i n j f = some r)
    (kk : ∀ x : Int32, f x = some r → W p l e R s m args below meth c H locs cells slots Q (F0 m (pc + 1) ls (.int x :: rest))) : W p l e R s m args below meth c H locs cells slots Q (F0 m pc ls (.int j :: .ref (ad i) :: rest)) :=
  y_zald Z.1 Z.2.1 Z.2.2.2.2.2 hS hsh (gd_el h).1 hd (kk _ (gd_el h).2)
theorem h_lald {n : Nat} {j : Int32} {f : Int64 → Option ρ} (Z : Cz D (Ew D A) A cc nL ret own p s m args meth c) (hS : St D A ad S σ s.heap H locs) (hsh : S i = (4, n)) (hd : decode cc pc = .ok (.laload, 1)) (h : rdL σ i n j f = some r)
    (kk : ∀ x : Int64, f x = some r → W p l e R s m args below meth c H locs cells slots Q (F0 m (pc + 1) ls (.long x :: rest))) : W p l e R s m args below meth c H locs cells slots Q (F0 m pc ls (.int j :: .ref (ad i) :: rest)) :=
  y_lald Z.1 Z.2.1 Z.2.2.2.2.2 hS hsh (gd_el h).1 hd (kk _ (gd_el h).2)
theorem h_iast {n : Nat} {j v : Int32} {f : Mem → Option ρ} (Z : Cz D (Ew D A) A cc nL ret own p s m args meth c) (hS : St D A ad S σ s.heap H locs) (hsh : S i = (1, n)) (hd : decode cc pc = .ok (.iastore, 1)) (h : wrI σ i n j v f = some r)
    (kk : ∀ (σ' : Mem) (H1 : Heap) (locs1 : List Loc), St D A ad S σ' s.heap H1 locs1 → f σ' = some r → W p l e R s m args below meth c H1 locs1 cells slots Q (F0 m (pc + 1) ls rest)) : W p l e R s m args below meth c H locs cells slots Q (F0 m pc ls (.int v :: .int j :: .ref (ad i) :: rest)) :=
  y_iast Z.1 Z.2.1 Z.2.2.2.2.2 hS hsh (gd_el h).1 hd (fun H1 locs1 hS => kk _ H1 locs1 hS (gd_el h).2)
theorem h_zast {n : Nat} {j v : Int32} {f : Mem → Option ρ} (Z : Cz D (Ew D A) A cc nL ret own p s m args meth c) (hS : St D A ad S σ s.heap H locs) (hsh : S i = (3, n)) (hd : decode cc pc = .ok (.bastore, 1)) (h : wrZ σ i n j v f = some r)
    (kk : ∀ (σ' : Mem) (H1 : Heap) (locs1 : List Loc), St D A ad S σ' s.heap H1 locs1 → f σ' = some r → W p l e R s m args below meth c H1 locs1 cells slots Q (F0 m (pc + 1) ls rest)) : W p l e R s m args below meth c H locs cells slots Q (F0 m pc ls (.int v :: .int j :: .ref (ad i) :: rest)) :=
  y_zast Z.1 Z.2.1 Z.2.2.2.2.2 hS hsh (gd_el h).1 (gd_el (gd_el h).2).1 hd (fun H1 locs1 hS => kk _ H1 locs1 hS (gd_el (gd_el h).2).2)
theorem h_bast {n : Nat} {j v : Int32} {f : Mem → Option ρ} (Z : Cz D (Ew D A) A cc nL ret own p s m args meth c) (hS : St D A ad S σ s.heap H locs) (hsh : S i = (2, n)) (hd : decode cc pc = .ok (.bastore, 1)) (h : wrB σ i n j v f = some r)
    (kk : ∀ (σ' : Mem) (H1 : Heap) (locs1 : List Loc), St D A ad S σ' s.heap H1 locs1 → f σ' = some r → W p l e R s m args below meth c H1 locs1 cells slots Q (F0 m (pc + 1) ls rest)) : W p l e R s m args below meth c H locs cells slots Q (F0 m pc ls (.int v :: .int j :: .ref (ad i) :: rest)) :=
  y_bast Z.1 Z.2.1 Z.2.2.2.2.2 hS hsh (gd_el h).1 hd (fun H1 locs1 hS => kk _ H1 locs1 hS (gd_el h).2)
theorem h_last {n : Nat} {j : Int32} {v : Int64} {f : Mem → Option ρ} (Z : Cz D (Ew D A) A cc nL ret own p s m args meth c) (hS : St D A ad S σ s.heap H locs) (hsh : S i = (4, n)) (hd : decode cc pc = .ok (.lastore, 1)) (h : wrL σ i n j v f = some r)
    (kk : ∀ (σ' : Mem) (H1 : Heap) (locs1 : List Loc), St D A ad S σ' s.heap H1 locs1 → f σ' = some r → W p l e R s m args below meth c H1 locs1 cells slots Q (F0 m (pc + 1) ls rest)) : W p l e R s m args below meth c H locs cells slots Q (F0 m pc ls (.long v :: .int j :: .ref (ad i) :: rest)) :=
  y_last Z.1 Z.2.1 Z.2.2.2.2.2 hS hsh (gd_el h).1 hd (fun H1 locs1 hS => kk _ H1 locs1 hS (gd_el h).2)
/-- the arrays of references: contents, by kind a -/
def ak (a n : Nat) : Prop := 5 ≤ a ∧ a < 8
theorem gC_a {d : Nat → ClassId} {ad : Nat → Nat} {S : Nat → Nat × Nat} {σ : Mem} {i a n : Nat} (h : S i = (a, n)) (h5 : 5 ≤ a) (h8 : a < 8) : gC d ad S σ i = some (.inl (d a, n, .inr (.inr (.inr (.inr fun j => (mR σ i j).map ad))))) := by
  unfold gC
  rw [h]
  rcases (show a = 5 ∨ a = 6 ∨ a = 7 by omega) with rfl | rfl | rfl <;> rfl
def elC (a : Nat) : String := if a = 5 then "ClogHouse$Filter" else if a = 6 then "ClogHouse$Cell" else "ClogHouse$Clause"
theorem tys_a {d : Nat → ClassId} {a : Nat} (h5 : 5 ≤ a) (h8 : a < 8) : (tysG d)[a - 1]? = some (d a, .object (elC a)) := by
  rcases (show a = 5 ∨ a = 6 ∨ a = 7 by omega) with rfl | rfl | rfl <;> rfl
theorem h_aald {a n : Nat} {j : Int32} (Z : Cz D (Ew D A) A cc nL ret own p s m args meth c) (hS : St D A ad S σ s.heap H locs) (hsh : S i = (a, n)) (h5 : 5 ≤ a) (h8 : a < 8) (hin : inb j n = true) (hd : decode cc pc = .ok (.aaload, 1))
    (kk : W p l e R s m args below meth c H locs cells slots Q (F0 m (pc + 1) ls (va_rf ((mR σ i j.toNatClampNeg).map ad) :: rest))) : W p l e R s m args below meth c H locs cells slots Q (F0 m pc ls (.int j :: .ref (ad i) :: rest)) :=
  va_aldq (D := D.1) (cl := vwCl) (ws := [(ad i, .inl (D.2.1 a, n, .inr (.inr (.inr (.inr fun j => (mR σ i j).map ad)))))]) (C := elC a) (f := fun j => (mR σ i j).map ad) Z.1 Z.2.1 Z.2.2.2.2.2.2.2.1.1 (fun k q hq => by
    cases k with
    | zero => cases hq; exact hS.1.1 i _ (gC_a hsh h5 h8)
    | succ k => simp at hq) 0 (a - 1) rfl (tys_a h5 h8) (inb_in hin) hd kk
theorem h_aldN {a n : Nat} {sh : Nat × Nat} {j : Int32} {f : Nat → Option ρ} (Z : Cz D (Ew D A) A cc nL ret own p s m args meth c) (hS : St D A ad S σ s.heap H locs) (hsh : S i = (a, n)) (h5 : 5 ≤ a) (h8 : a < 8) (he : elK a = sh) (hd : decode cc pc = .ok (.aaload, 1)) (h : rdN σ i n j f = some r)
    (kk : ∀ t : Nat, S t = sh → f t = some r → W p l e R s m args below meth c H locs cells slots Q (F0 m (pc + 1) ls (.ref (ad t) :: rest))) : W p l e R s m args below meth c H locs cells slots Q (F0 m pc ls (.int j :: .ref (ad i) :: rest)) := by
  obtain ⟨hin, h⟩ := gd_el h
  obtain ⟨t, ht, h⟩ := bnd_el h
  have := kk t ((hS.1.2.2.2.2.1 i a n hsh h5 h8 _ t ht).trans he) h
  refine h_aald Z hS hsh h5 h8 hin hd ?_
  rw [ht]
  exact this
theorem h_aldQ {a n : Nat} {j : Int32} {f : Option Nat → Option ρ} (Z : Cz D (Ew D A) A cc nL ret own p s m args meth c) (hS : St D A ad S σ s.heap H locs) (hsh : S i = (a, n)) (h5 : 5 ≤ a) (h8 : a < 8) (hd : decode cc pc = .ok (.aaload, 1)) (h : rdR σ i n j f = some r)
    (kk : ∀ o : Option Nat, (∀ t, o = some t → S t = elK a) → f o = some r → W p l e R s m args below meth c H locs cells slots Q (F0 m (pc + 1) ls (va_rf (o.map ad) :: rest))) : W p l e R s m args below meth c H locs cells slots Q (F0 m pc ls (.int j :: .ref (ad i) :: rest)) :=
  h_aald Z hS hsh h5 h8 (gd_el h).1 hd (kk _ (fun t ht => hS.1.2.2.2.2.1 i a n hsh h5 h8 _ t ht) (gd_el h).2)
/-! values that get a name -/
theorem h_leti {x : Int32} {f : Int32 → Option ρ} (h : wlet x f = some r) (kk : ∀ y : Int32, f y = some r → W p l e R s m args below meth c H locs cells slots Q (F0 m pc ls (.int y :: rest))) : W p l e R s m args below meth c H locs cells slots Q (F0 m pc ls (.int x :: rest)) := kk x h
theorem h_letl {x : Int64} {f : Int64 → Option ρ} (h : wlet x f = some r) (kk : ∀ y : Int64, f y = some r → W p l e R s m args below meth c H locs cells slots Q (F0 m pc ls (.long y :: rest))) : W p l e R s m args below meth c H locs cells slots Q (F0 m pc ls (.long x :: rest)) := kk x h
theorem h_idiv {x y : Int32} {f : Option ρ} (Z : Cz D (Ew D A) A cc nL ret own p s m args meth c) (hd : decode cc pc = .ok (.idiv, 1)) (h : divI y f = some r)
    (kk : f = some r → W p l e R s m args below meth c H locs cells slots Q (F0 m (pc + 1) ls (.int (x / y) :: rest))) : W p l e R s m args below meth c H locs cells slots Q (F0 m pc ls (.int y :: .int x :: rest)) := lv_idiv Z.1 Z.2.1 hd (nz_ne (gd_el h).1) (kk (gd_el h).2)
theorem h_irem {x y : Int32} {f : Option ρ} (Z : Cz D (Ew D A) A cc nL ret own p s m args meth c) (hd : decode cc pc = .ok (.irem, 1)) (h : divI y f = some r)
    (kk : f = some r → W p l e R s m args below meth c H locs cells slots Q (F0 m (pc + 1) ls (.int (x - x / y * y) :: rest))) : W p l e R s m args below meth c H locs cells slots Q (F0 m pc ls (.int y :: .int x :: rest)) := lv_irem Z.1 Z.2.1 hd (nz_ne (gd_el h).1) (kk (gd_el h).2)
theorem h_ldiv {x y : Int64} {f : Option ρ} (Z : Cz D (Ew D A) A cc nL ret own p s m args meth c) (hd : decode cc pc = .ok (.ldiv, 1)) (h : divL y f = some r)
    (kk : f = some r → W p l e R s m args below meth c H locs cells slots Q (F0 m (pc + 1) ls (.long (x / y) :: rest))) : W p l e R s m args below meth c H locs cells slots Q (F0 m pc ls (.long y :: .long x :: rest)) := lv_ldiv Z.1 Z.2.1 hd (nzl_ne (gd_el h).1) (kk (gd_el h).2)
theorem h_lrem {x y : Int64} {f : Option ρ} (Z : Cz D (Ew D A) A cc nL ret own p s m args meth c) (hd : decode cc pc = .ok (.lrem, 1)) (h : divL y f = some r)
    (kk : f = some r → W p l e R s m args below meth c H locs cells slots Q (F0 m (pc + 1) ls (.long (x - x / y * y) :: rest))) : W p l e R s m args below meth c H locs cells slots Q (F0 m pc ls (.long y :: .long x :: rest)) := lv_lrem Z.1 Z.2.1 hd (nzl_ne (gd_el h).1) (kk (gd_el h).2)
/-! branches over null -/
theorem h_ifnull {o : Option Nat} {off : Int} {tgt : Nat} (Z : Cz D (Ew D A) A cc nL ret own p s m args meth c) (hd : decode cc pc = .ok (.ifnull off, 3)) (ht : (pc : Int) + off = (tgt : Int))
    (kn : o = none → W p l e R s m args below meth c H locs cells slots Q (F0 m tgt ls rest)) (ks : ∀ t, o = some t → W p l e R s m args below meth c H locs cells slots Q (F0 m (pc + 3) ls rest)) : W p l e R s m args below meth c H locs cells slots Q (F0 m pc ls (va_rf (o.map ad) :: rest)) := by
  cases o with
  | none => exact lv_ifnullN Z.1 Z.2.1 hd ht (kn rfl)
  | some t => exact lv_ifnull Z.1 Z.2.1 hd (ks t rfl)
theorem h_ifnonnull {o : Option Nat} {off : Int} {tgt : Nat} (Z : Cz D (Ew D A) A cc nL ret own p s m args meth c) (hd : decode cc pc = .ok (.ifnonnull off, 3)) (ht : (pc : Int) + off = (tgt : Int))
    (kn : o = none → W p l e R s m args below meth c H locs cells slots Q (F0 m (pc + 3) ls rest)) (ks : ∀ t, o = some t → W p l e R s m args below meth c H locs cells slots Q (F0 m tgt ls rest)) : W p l e R s m args below meth c H locs cells slots Q (F0 m pc ls (va_rf (o.map ad) :: rest)) := by
  cases o with
  | none => exact lv_ifnonnullN Z.1 Z.2.1 hd (kn rfl)
  | some t => exact lv_ifnonnull Z.1 Z.2.1 hd ht (ks t rfl)
/-! returns -/
theorem h_iret {v r : Int32} (Z : Cz D (Ew D A) A cc nL (some .int) own p s m args meth c) (hS : St D A ad S σ s.heap H locs) (hd : decode cc pc = .ok (.ireturn, 1)) (h : some v = some r) : W p l e R s m args below meth c H locs cells slots (MQ below (QG D A ad S (some (.int r)) σ) args s cells slots A) (F0 m pc ls [.int v]) := by
  cases h
  exact y_iret Z.1 Z.2.1 Z.2.2.1 Z.2.2.2.1 hS hd
theorem h_iretm {v : Int32} {r : Mem × Int32} (Z : Cz D (Ew D A) A cc nL (some .int) own p s m args meth c) (hS : St D A ad S σ s.heap H locs) (hd : decode cc pc = .ok (.ireturn, 1)) (h : some (σ, v) = some r) : W p l e R s m args below meth c H locs cells slots (MQ below (QG D A ad S (some (.int r.2)) r.1) args s cells slots A) (F0 m pc ls [.int v]) := by
  cases h
  exact y_iret Z.1 Z.2.1 Z.2.2.1 Z.2.2.2.1 hS hd
theorem h_zret {v r : Int32} (Z : Cz D (Ew D A) A cc nL (some .boolean) own p s m args meth c) (hS : St D A ad S σ s.heap H locs) (hd : decode cc pc = .ok (.ireturn, 1)) (h : retZ v = some r) : W p l e R s m args below meth c H locs cells slots (MQ below (QG D A ad S (some (.int r)) σ) args s cells slots A) (F0 m pc ls [.int v]) := by
  obtain ⟨hz, h⟩ := gd_el h
  cases h
  exact y_zret Z.1 Z.2.1 Z.2.2.1 Z.2.2.2.1 hz hS hd
theorem h_zretm {v : Int32} {r : Mem × Int32} (Z : Cz D (Ew D A) A cc nL (some .boolean) own p s m args meth c) (hS : St D A ad S σ s.heap H locs) (hd : decode cc pc = .ok (.ireturn, 1)) (h : retZm σ v = some r) : W p l e R s m args below meth c H locs cells slots (MQ below (QG D A ad S (some (.int r.2)) r.1) args s cells slots A) (F0 m pc ls [.int v]) := by
  obtain ⟨hz, h⟩ := gd_el h
  cases h
  exact y_zret Z.1 Z.2.1 Z.2.2.1 Z.2.2.2.1 hz hS hd
theorem h_lret {v r : Int64} (Z : Cz D (Ew D A) A cc nL (some .long) own p s m args meth c) (hS : St D A ad S σ s.heap H locs) (hd : decode cc pc = .ok (.lreturn, 1)) (h : some v = some r) : W p l e R s m args below meth c H locs cells slots (MQ below (QG D A ad S (some (.long r)) σ) args s cells slots A) (F0 m pc ls [.long v]) := by
  cases h
  exact y_lret Z.1 Z.2.1 Z.2.2.1 Z.2.2.2.1 hS hd
theorem h_vret {r : Mem} (Z : Cz D (Ew D A) A cc nL none own p s m args meth c) (hS : St D A ad S σ s.heap H locs) (hd : decode cc pc = .ok (.return_, 1)) (h : some σ = some r) : W p l e R s m args below meth c H locs cells slots (MQ below (QG D A ad S none r) args s cells slots A) (F0 m pc ls []) := by
  cases h
  exact y_vret Z.1 Z.2.1 Z.2.2.1 Z.2.2.2.1 hS hd
/-! calls: what a run gives; then how it goes on, by the kind of the answer -/
theorem h_rV {ci N idx maxL n : Nat} {Cn : String} {T : u_T} {y : MethodName} {bytes : ByteArray} {rt : Option FieldType} {rm : Room} {As st0 : List Value} {v : Option Value} {σ' : Mem} (Z : Cz D (Ew D A) A cc nL ret own p s m args meth c) (hS : St D A ad S σ s.heap H locs) (hsh : S i = (ci + 10, 0)) (hc : vwCl[ci]? = some (Cn, T, N)) (V : VOK own idx Cn y bytes maxL rt n)
    (hM : Met l y (ws_ y bytes maxL rt) rm (va_Pc (.ref (ad i) :: As) (PreG D (Ew D A) A ad S σ)) (QG D A ad S v σ') 0 0 A) (hrc : rm.cells = 0) (hrs : rm.slots = 0) (hR : rm.frames + 1 ≤ R.frames ∧ 8 + (maxL + 11) + rm.locals ≤ R.locals) (hn : As.length = n) (hsz : ls.size = nL) (hst : st0 = As.reverse ++ .ref (ad i) :: rest) (hw : (rest.map fun v => v.category).sum ≤ 8) (hcl : cells ≤ R.cells) (hsl : slots ≤ R.slots) (hd : decode cc pc = .ok (.invokevirtual idx, 3)) :
    va_Run p l e R s m args below meth c H locs cells slots 0 0 (F0 m pc ls st0) rest (QG D A ad S v σ' (Value.ref (ad i) :: As).toArray) A :=
  va_runV (C := Cn) (As := As) (rest := rest) ⟨Z.1, Z.2.1, Z.2.2.2.2.1, Z.2.2.2.2.2.1, Z.2.2.2.2.2.2.1⟩ hM (cwV n Z.2.2.2.2.2.2.1 V.1 rfl hrc hrs V.2 hR) ⟨PreG.blind, g_recv Z.2.2.2.2.2 hS hsh hc, PreG.at Z.2.2.2.2.2 hS⟩ rfl hn hsz hst (lv_room hw) hd ⟨hcl, hsl⟩
theorem h_rS {idx maxL n : Nat} {y : MethodName} {bytes : ByteArray} {rt : Option FieldType} {rm : Room} {As st0 : List Value} {v : Option Value} {σ' : Mem} (Z : Cz D (Ew D A) A cc nL ret own p s m args meth c) (hS : St D A ad S σ s.heap H locs) (V : SOK own idx y bytes maxL rt n)
    (hM : Met l y (ws_ y bytes maxL rt) rm (va_Pc As (PreG D (Ew D A) A ad S σ)) (QG D A ad S v σ') 0 0 A) (hrc : rm.cells = 0) (hrs : rm.slots = 0) (hR : rm.frames + 1 ≤ R.frames ∧ 8 + (maxL + 11) + rm.locals ≤ R.locals) (hn : As.length = n) (hsz : ls.size = nL) (hst : st0 = As.reverse ++ rest) (hw : (rest.map fun v => v.category).sum ≤ 8) (hcl : cells ≤ R.cells) (hsl : slots ≤ R.slots) (hd : decode cc pc = .ok (.invokestatic idx, 3)) :
    va_Run p l e R s m args below meth c H locs cells slots 0 0 (F0 m pc ls st0) rest (QG D A ad S v σ' As.toArray) A :=
  va_runS (As := As) (rest := rest) ⟨Z.1, Z.2.1, Z.2.2.2.2.1, Z.2.2.2.2.2.1, Z.2.2.2.2.2.2.1⟩ hM (va_cwS n Z.2.2.2.2.2.2.1 V.1 rfl hrc hrs V.2 hR) ⟨PreG.blind, PreG.at Z.2.2.2.2.2 hS⟩ rfl hn hsz hst (lv_room hw) hd ⟨hcl, hsl⟩
theorem h_ci {st0 : List Value} {a : Array Value} {o : Option Int32} {g : Int32 → Option ρ} (hS : St D A ad S σ s.heap H locs) (h : bnd o g = some r) (hr : ∀ x, o = some x → va_Run p l e R s m args below meth c H locs cells slots 0 0 (F0 m pc ls st0) rest (QG D A ad S (some (.int x)) σ a) A)
    (kk : ∀ (x : Int32) (H1 : Heap) (locs1 : List Loc), St D A ad S σ s.heap H1 locs1 → g x = some r → W p l e R s m args below meth c H1 locs1 cells slots Q (F0 m (pc + 3) ls (.int x :: rest))) : W p l e R s m args below meth c H locs cells slots Q (F0 m pc ls st0) := by
  obtain ⟨x, hx, h⟩ := bnd_el h
  exact y_go (mc := 0) (ms := 0) (hr x hx) hS.2 (fun H1 locs1 hS => kk x H1 locs1 hS h)
theorem h_cl {st0 : List Value} {a : Array Value} {o : Option Int64} {g : Int64 → Option ρ} (hS : St D A ad S σ s.heap H locs) (h : bnd o g = some r) (hr : ∀ x, o = some x → va_Run p l e R s m args below meth c H locs cells slots 0 0 (F0 m pc ls st0) rest (QG D A ad S (some (.long x)) σ a) A)
    (kk : ∀ (x : Int64) (H1 : Heap) (locs1 : List Loc), St D A ad S σ s.heap H1 locs1 → g x = some r → W p l e R s m args below meth c H1 locs1 cells slots Q (F0 m (pc + 3) ls (.long x :: rest))) : W p l e R s m args below meth c H locs cells slots Q (F0 m pc ls st0) := by
  obtain ⟨x, hx, h⟩ := bnd_el h
  exact y_go (mc := 0) (ms := 0) (hr x hx) hS.2 (fun H1 locs1 hS => kk x H1 locs1 hS h)
theorem h_cm {st0 : List Value} {a : Array Value} {o : Option Mem} {g : Mem → Option ρ} (hS : St D A ad S σ s.heap H locs) (h : bnd o g = some r) (hr : ∀ x, o = some x → va_Run p l e R s m args below meth c H locs cells slots 0 0 (F0 m pc ls st0) rest (QG D A ad S none x a) A)
    (kk : ∀ (x : Mem) (H1 : Heap) (locs1 : List Loc), St D A ad S x s.heap H1 locs1 → g x = some r → W p l e R s m args below meth c H1 locs1 cells slots Q (F0 m (pc + 3) ls rest)) : W p l e R s m args below meth c H locs cells slots Q (F0 m pc ls st0) := by
  obtain ⟨x, hx, h⟩ := bnd_el h
  exact y_go (mc := 0) (ms := 0) (hr x hx) hS.2 (fun H1 locs1 hS => kk x H1 locs1 hS h)
theorem h_cim {st0 : List Value} {a : Array Value} {o : Option (Mem × Int32)} {g : Mem → Int32 → Option ρ} (hS : St D A ad S σ s.heap H locs) (h : bnd2 o g = some r) (hr : ∀ x, o = some x → va_Run p l e R s m args below meth c H locs cells slots 0 0 (F0 m pc ls st0) rest (QG D A ad S (some (.int x.2)) x.1 a) A)
    (kk : ∀ (x : Mem) (y : Int32) (H1 : Heap) (locs1 : List Loc), St D A ad S x s.heap H1 locs1 → g x y = some r → W p l e R s m args below meth c H1 locs1 cells slots Q (F0 m (pc + 3) ls (.int y :: rest))) : W p l e R s m args below meth c H locs cells slots Q (F0 m pc ls st0) := by
  obtain ⟨x, y, hx, h⟩ := bnd2_el h
  exact y_go (mc := 0) (ms := 0) (hr _ hx) hS.2 (fun H1 locs1 hS => kk x y H1 locs1 hS h)
/-! a tableswitch -/
theorem h_tsw {dflt lo hi off : Int} {offs : Array Int} {len tgt : Nat} {x k : Int32} (Z : Cz D (Ew D A) A cc nL ret own p s m args meth c) (hd : decode cc pc = .ok (.tableswitch dflt lo hi offs, len)) (hx : x = k) (h1 : ¬ k.toInt < lo) (h2 : ¬ hi < k.toInt) (ho : offs[(k.toInt - lo).toNat]? = some off) (ht : (pc : Int) + off = (tgt : Int))
    (kk : W p l e R s m args below meth c H locs cells slots Q (F0 m tgt ls rest)) : W p l e R s m args below meth c H locs cells slots Q (F0 m pc ls (.int x :: rest)) := by
  subst hx
  exact lv_tableIn Z.1 Z.2.1 hd h1 h2 ho ht kk
theorem tsw_out {x : Int32} {hi : Nat} (hh : hi < 1000) (h : ∀ k : Nat, k ≤ hi → ¬ x = Int32.ofNat k) : x.toInt < 0 ∨ (hi : Int) < x.toInt := by
  by_cases h0 : x.toInt < 0
  · exact Or.inl h0
  · refine Or.inr (Int.not_le.mp fun q => h x.toInt.toNat (by omega) ?_)
    apply Int32.toInt_inj.mp
    rw [show (Int32.ofNat x.toInt.toNat) = nI x.toInt.toNat from rfl, nI_toInt (by omega)]
    omega
end HR
