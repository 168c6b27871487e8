/-! ===== core: the classes of the store, their fields, the shapes ===== -/
abbrev vwCl : List vw_C := [(RX1, TX1, 39), (RX2, TX2, 3), (RX3, TX3, 17), (RX5, TX5, 1), (RX7, TX7, 5), (RX8, TX8, 4), (RX10, TX10, 3), (RX11, TX11, 1), (RX13, TX13, 3), (RX14, TX14, 1), (RX15, TX15, 1), (RX16, TX16, 3), (RX17, TX17, 3), (RX18, TX18, 4), (RX6, TX6, 63), (RX9, TX9, 7), (RJ9, TJ9, 6)]
def fkT : List (List Nat) := [[0, 102, 5, 0, 7, 8, 9, 0, 0, 12, 13, 14, 15, 16, 17, 18, 19, 20, 21, 22, 23, 0, 25, 26, 27, 28, 0, 0, 31, 112, 33, 34, 0, 36, 37, 38, 39, 40, 0], [3, 4, 5], [3, 4, 6, 7, 8, 0, 0, 0, 0, 0, 0, 0, 0, 0, 0, 0, 1], [3], [3, 0, 0, 4, 0], [1, 0, 0, 0], [0, 1, 1], [1], [1, 1, 1], [0], [0], [0, 1, 1], [1, 1, 0], [0, 1, 1, 1], [0, 0, 5, 6, 7, 8, 9, 10, 11, 12, 13, 14, 15, 16, 17, 18, 19, 20, 21, 22, 23, 24, 25, 26, 0, 28, 29, 30, 31, 0, 0, 0, 0, 0, 0, 38, 39, 0, 41, 42, 43, 44, 45, 46, 47, 48, 49, 50, 0, 52, 53, 54, 55, 0, 0, 58, 59, 0, 61, 62, 63, 64, 0], [0, 0, 0, 0, 0, 0, 0], [0, 0, 0, 0, 0, 0]]
def fk (ci k : Nat) : Nat := (fkT.getD ci []).getD k 0
def shT : List (List (Nat × Nat)) := [[(0, 0), (11, 0), (5, 8), (0, 0), (2, 160), (7, 12), (1, 6), (0, 0), (0, 0), (1, 8), (1, 8), (1, 8), (1, 8), (1, 8), (1, 8), (1, 8), (1, 8), (1, 8), (1, 8), (1, 8), (1, 48024), (0, 0), (1, 6), (1, 6), (1, 6), (1, 6), (0, 0), (0, 0), (6, 6), (12, 0), (1, 20), (1, 4941), (0, 0), (1, 100), (1, 100), (1, 100), (1, 100), (1, 100), (0, 0)], [(1, 8), (1, 8), (1, 8)], [(6, 10), (13, 0), (1, 3), (1, 8), (1, 10), (0, 0), (0, 0), (0, 0), (0, 0), (0, 0), (0, 0), (0, 0), (0, 0), (0, 0), (0, 0), (0, 0), (0, 0)], [(1, 8)], [(1, 8), (0, 0), (0, 0), (1, 8), (0, 0)], [(0, 0), (0, 0), (0, 0), (0, 0)], [(0, 0), (0, 0), (0, 0)], [(0, 0)], [(0, 0), (0, 0), (0, 0)], [(0, 0)], [(0, 0)], [(0, 0), (0, 0), (0, 0)], [(0, 0), (0, 0), (0, 0)], [(0, 0), (0, 0), (0, 0), (0, 0)], [(0, 0), (0, 0), (1, 8), (1, 8), (1, 8), (1, 9), (1, 90), (1, 90), (1, 90), (1, 720), (1, 720), (1, 72), (1, 9), (1, 9), (1, 9), (1, 9), (1, 9), (1, 9), (1, 9), (1, 9), (1, 9), (1, 9), (3, 9), (3, 9), (0, 0), (1, 160), (1, 420), (1, 5040), (1, 12), (0, 0), (0, 0), (0, 0), (0, 0), (0, 0), (0, 0), (1, 128), (1, 200), (0, 0), (1, 8), (1, 48024), (1, 8), (1, 8), (1, 48), (1, 8), (1, 8), (1, 8), (1, 10), (3, 8), (0, 0), (1, 6), (1, 6), (1, 6), (1, 6), (0, 0), (0, 0), (1, 20), (4, 4941), (0, 0), (1, 100), (1, 100), (1, 100), (1, 100), (0, 0)], [(0, 0), (0, 0), (0, 0), (0, 0), (0, 0), (0, 0), (0, 0)], [(0, 0), (0, 0), (0, 0), (0, 0), (0, 0), (0, 0)]]
def shF (ci k : Nat) : Nat × Nat := (shT.getD ci []).getD k (0, 0)
def okT : List (List (List (Nat × Nat))) := [[[], [], [], [], [], [], [], [], [], [], [], [], [], [], [], [], [], [], [], [], [], [], [], [], [], [], [], [], [], [], [], [], [], [], [], [], [], [], []], [[], [], []], [[], [], [], [], [], [], [], [], [], [], [], [], [], [], [], [], [(23, 0)]], [[]], [[], [], [], [], []], [[(2, 160)], [], [], []], [[], [(22, 0), (17, 0), (16, 0)], [(16, 0)]], [[(22, 0), (17, 0), (16, 0)]], [[(18, 0), (19, 0), (20, 0)], [(21, 0)], [(21, 0)]], [[]], [[]], [[], [(18, 0), (19, 0), (20, 0)], [(21, 0)]], [[(18, 0), (19, 0), (20, 0)], [(18, 0), (19, 0), (20, 0)], []], [[], [(22, 0), (17, 0), (16, 0)], [(18, 0), (19, 0), (20, 0)], [(23, 0)]], [[], [], [], [], [], [], [], [], [], [], [], [], [], [], [], [], [], [], [], [], [], [], [], [], [], [], [], [], [], [], [], [], [], [], [], [], [], [], [], [], [], [], [], [], [], [], [], [], [], [], [], [], [], [], [], [], [], [], [], [], [], [], []], [[], [], [], [], [], [], []], [[], [], [], [], [], []]]
def okL (ci k : Nat) : List (Nat × Nat) := (okT.getD ci []).getD k []
def elK (a : Nat) : Nat × Nat := if a = 5 then (12, 0) else if a = 6 then (14, 0) else (23, 0)
/-! ===== the store ===== -/
abbrev Mem : Type := (Nat → Nat → Int32) × (Nat → Nat → Int64) × (Nat → Nat → Option Nat)
def mI (σ : Mem) (i k : Nat) : Int32 := σ.1 i k
def mL (σ : Mem) (i k : Nat) : Int64 := σ.2.1 i k
def mR (σ : Mem) (i k : Nat) : Option Nat := σ.2.2 i k
def setI (σ : Mem) (i k : Nat) (v : Int32) : Mem := (fun a b => if a = i ∧ b = k then v else σ.1 a b, σ.2)
def setL (σ : Mem) (i k : Nat) (v : Int64) : Mem := (σ.1, fun a b => if a = i ∧ b = k then v else σ.2.1 a b, σ.2.2)
def setR (σ : Mem) (i k : Nat) (v : Option Nat) : Mem := (σ.1, σ.2.1, fun a b => if a = i ∧ b = k then v else σ.2.2 a b)
theorem mI_setI (σ : Mem) (i k : Nat) (v : Int32) (a b : Nat) : mI (setI σ i k v) a b = if a = i ∧ b = k then v else mI σ a b := rfl
theorem mI_setL (σ : Mem) (i k : Nat) (v : Int64) : mI (setL σ i k v) = mI σ := rfl
theorem mI_setR (σ : Mem) (i k : Nat) (v : Option Nat) : mI (setR σ i k v) = mI σ := rfl
theorem mL_setI (σ : Mem) (i k : Nat) (v : Int32) : mL (setI σ i k v) = mL σ := rfl
theorem mL_setL (σ : Mem) (i k : Nat) (v : Int64) (a b : Nat) : mL (setL σ i k v) a b = if a = i ∧ b = k then v else mL σ a b := rfl
theorem mL_setR (σ : Mem) (i k : Nat) (v : Option Nat) : mL (setR σ i k v) = mL σ := rfl
theorem mR_setI (σ : Mem) (i k : Nat) (v : Int32) : mR (setI σ i k v) = mR σ := rfl
theorem mR_setL (σ : Mem) (i k : Nat) (v : Int64) : mR (setL σ i k v) = mR σ := rfl
theorem mR_setR (σ : Mem) (i k : Nat) (v : Option Nat) (a b : Nat) : mR (setR σ i k v) a b = if a = i ∧ b = k then v else mR σ a b := rfl
theorem mI_fn (σ : Mem) (i k : Nat) (v : Int32) : mI (setI σ i k v) i = upd (mI σ i) k v := by
  funext b
  simp [mI_setI, upd]
theorem mI_ne (σ : Mem) {i a : Nat} (k : Nat) (v : Int32) (h : a ≠ i) : mI (setI σ i k v) a = mI σ a := by
  funext b
  simp [mI_setI, h]
theorem mL_fn (σ : Mem) (i k : Nat) (v : Int64) : mL (setL σ i k v) i = vp_updL (mL σ i) k v := by
  funext b
  simp [mL_setL, vp_updL]
theorem mL_ne (σ : Mem) {i a : Nat} (k : Nat) (v : Int64) (h : a ≠ i) : mL (setL σ i k v) a = mL σ a := by
  funext b
  simp [mL_setL, h]
theorem mR_ne (σ : Mem) {i a : Nat} (k : Nat) (v : Option Nat) (h : a ≠ i) : mR (setR σ i k v) a = mR σ a := by
  funext b
  simp [mR_setR, h]
/-! ===== small words of the specs ===== -/
def wlet {α β : Type} (a : α) (f : α → β) : β := f a
theorem wlet_eq {α β : Type} (a : α) (f : α → β) : wlet a f = f a := rfl
theorem wlet_el {α β : Type} {a : α} {f : α → Option β} {r : β} (h : wlet a f = some r) : ∃ y, y = a ∧ f y = some r := ⟨a, rfl, h⟩
def gd {β : Type} (b : Bool) (x : Option β) : Option β := match b with
  | true => x
  | false => none
theorem gd_t {β : Type} (x : Option β) : gd true x = x := rfl
theorem gd_of {β : Type} {b : Bool} (h : b = true) (x : Option β) : gd b x = x := by rw [h]; rfl
theorem gd_el {β : Type} {b : Bool} {x : Option β} {r : β} (h : gd b x = some r) : b = true ∧ x = some r := by
  cases b with
  | true => exact ⟨rfl, h⟩
  | false => cases h
def inb (i : Int32) (n : Nat) : Bool := decide (0 ≤ i.toInt) && decide (i.toInt < (n : Int))
theorem inb_in {i : Int32} {n : Nat} (h : inb i n = true) : vp_in i n := by
  simp only [inb, Bool.and_eq_true, decide_eq_true_eq] at h
  exact vp_in_iff.mpr h
def nz (y : Int32) : Bool := !decide (y = 0)
theorem nz_ne {y : Int32} (h : nz y = true) : ¬ y = 0 := by simpa [nz] using h
def nzl (y : Int64) : Bool := !decide (y = 0)
theorem nzl_ne {y : Int64} (h : nzl y = true) : ¬ y = 0 := by simpa [nzl] using h
def isz (y : Int32) : Bool := decide (y = 0) || decide (y = 1)
theorem isz_nar {y : Int32} (h : isz y = true) : narrow .boolean (.int y) = .int y := by
  simp only [isz, Bool.or_eq_true, decide_eq_true_eq] at h
  rcases h with rfl | rfl <;> rfl
theorem isz_fit {y : Int32} (h : isz y = true) : fits .boolean (.int y) = true := by
  simp only [isz, Bool.or_eq_true, decide_eq_true_eq] at h
  rcases h with rfl | rfl <;> decide +kernel
theorem bind_el {α β : Type} {o : Option α} {f : α → Option β} {r : β} (h : o.bind f = some r) : ∃ y, o = some y ∧ f y = some r := Option.bind_eq_some_iff.mp h
theorem if_t {α : Type} {c : Prop} [Decidable c] {x y z : α} (h : (if c then x else y) = z) (hc : c) : x = z := by rw [if_pos hc] at h; exact h
theorem if_f {α : Type} {c : Prop} [Decidable c] {x y z : α} (h : (if c then x else y) = z) (hc : ¬ c) : y = z := by rw [if_neg hc] at h; exact h
def bnd {α β : Type} (o : Option α) (f : α → Option β) : Option β := match o with
  | none => none
  | some a => f a
theorem bnd_el {α β : Type} {o : Option α} {f : α → Option β} {r : β} (h : bnd o f = some r) : ∃ y, o = some y ∧ f y = some r := by
  cases o with
  | none => cases h
  | some a => exact ⟨a, rfl, h⟩
theorem bnd_s {α β : Type} {o : Option α} {a : α} (f : α → Option β) (h : o = some a) : bnd o f = f a := by rw [h]; rfl
def bnd2 {α β γ : Type} (o : Option (α × β)) (f : α → β → Option γ) : Option γ := match o with
  | none => none
  | some a => f a.1 a.2
theorem bnd2_el {α β γ : Type} {o : Option (α × β)} {f : α → β → Option γ} {r : γ} (h : bnd2 o f = some r) : ∃ a b, o = some (a, b) ∧ f a b = some r := by
  cases o with
  | none => cases h
  | some a => exact ⟨a.1, a.2, rfl, h⟩
theorem bnd2_s {α β γ : Type} {o : Option (α × β)} {a : α} {b : β} (f : α → β → Option γ) (h : o = some (a, b)) : bnd2 o f = f a b := by rw [h]; rfl
/-- a loop, with fuel -/
def iter {α β : Type} (F : (α → Option β) → α → Option β) : Nat → α → Option β
  | 0, _ => none
  | n + 1, a => F (iter F n) a
theorem iter_s {α β : Type} (F : (α → Option β) → α → Option β) (n : Nat) (a : α) : iter F (n + 1) a = F (iter F n) a := rfl
def imax (x y : Int32) : Int32 := if x < y then y else x
def imin (x y : Int32) : Int32 := if y < x then y else x
def lmax (x y : Int64) : Int64 := if y < x then x else y
def lmin (x y : Int64) : Int64 := if y < x then y else x
/-! ===== the world ===== -/
abbrev gD : Type := va_G × (Nat → ClassId) × Heap
abbrev gE : Type := (ClassId × vp_A) ⊕ (Nat × (Nat → Value))
def tysG (d : Nat → ClassId) : List (ClassId × FieldType) := [(d 1, .int), (d 2, .byte), (d 3, .boolean), (d 4, .long), (d 5, .object "ClogHouse$Filter"), (d 6, .object "ClogHouse$Cell"), (d 7, .object "ClogHouse$Clause")]
def Kx (D : gD) (E : State → Prop) (U : State) : Prop := va_K D.1 vwCl (tysG D.2.1) U ∧ ∀ V : State, U.WarmedH V.vm → E V
theorem Kx.moved {D : gD} {E : State → Prop} {s U : State} (hW : s.WarmedH U.vm) (h : Kx D E s) : Kx D E U := ⟨va_K.moved hW.alike h.1, fun V hV => h.2 V (State.WarmedH.trans hW hV)⟩
def gat (D : va_G) (a : Nat) (e : gE) (H : Heap) : Prop := match e with
  | .inl x => H[a]? = some (vp_cell x.1 x.2)
  | .inr o => ∃ r : vw_C, vwCl[o.1]? = some r ∧ t_OB a (D.1 o.1) r.2.2 (D.2 o.1) H o.2
theorem gat.kept {D : va_G} {a : Nat} {e : gE} {H H1 : Heap} (h : gat D a e H) (hq : H1[a]? = H[a]?) : gat D a e H1 := by
  cases e with
  | inl x => exact hq.trans h
  | inr o =>
    obtain ⟨r, h1, h2⟩ := h
    exact ⟨r, h1, h2.kept hq⟩
theorem gat.lt {D : va_G} {a : Nat} {e : gE} {H : Heap} (h : gat D a e H) : a < H.size := by
  cases e with
  | inl x => exact (Array.getElem?_eq_some_iff.mp h).1
  | inr o =>
    obtain ⟨r, h1, cell, h2, -⟩ := h
    exact (Array.getElem?_eq_some_iff.mp h2).1
def gV (ad : Nat → Nat) (σ : Mem) (i ci k : Nat) : Value := match fk ci k with
  | 0 => .int (mI σ i k)
  | 1 => va_rf ((mR σ i k).map ad)
  | n + 2 => .ref (ad (i + n))
/-- a raw object: its constructor still runs, every reference is looked up -/
def gVr (ad : Nat → Nat) (σ : Mem) (i ci k : Nat) : Value := match fk ci k with
  | 0 => .int (mI σ i k)
  | _ + 1 => va_rf ((mR σ i k).map ad)
def gC (d : Nat → ClassId) (ad : Nat → Nat) (S : Nat → Nat × Nat) (σ : Mem) (i : Nat) : Option gE := match S i with
  | (0, _) => none
  | (1, n) => some (.inl (d 1, n, .inl (mI σ i)))
  | (2, n) => some (.inl (d 2, n, .inl (mI σ i)))
  | (3, n) => some (.inl (d 3, n, .inl (mI σ i)))
  | (4, n) => some (.inl (d 4, n, .inr (.inl (mL σ i))))
  | (5, n) => some (.inl (d 5, n, .inr (.inr (.inr (.inr fun j => (mR σ i j).map ad)))))
  | (6, n) => some (.inl (d 6, n, .inr (.inr (.inr (.inr fun j => (mR σ i j).map ad)))))
  | (7, n) => some (.inl (d 7, n, .inr (.inr (.inr (.inr fun j => (mR σ i j).map ad)))))
  | (8, _) => none
  | (9, _) => none
  | (c + 10, 0) => some (.inr (c, gV ad σ i c))
  | (c + 10, _ + 1) => some (.inr (c, gVr ad σ i c))
def gT (S : Nat → Nat × Nat) (σ : Mem) : Prop :=
  (∀ i ci, S i = (ci + 10, 0) → ∀ k, (fk ci k = 1 → ∀ t, mR σ i k = some t → S t ∈ okL ci k) ∧ (∀ n, fk ci k = n + 2 → S (i + n) = shF ci k)) ∧
  (∀ i a n, S i = (a, n) → 5 ≤ a → a < 8 → ∀ j t, mR σ i j = some t → S t = elK a) ∧
  (∀ i ci z, S i = (ci + 10, z + 1) → ∀ k t, mR σ i k = some t → (S t).1 ≠ 0) ∧ ∀ i, (S i).1 ≠ 8 ∧ (S i).1 ≠ 9
def gW (D : gD) (A : Nat → Prop) (ad : Nat → Nat) (S : Nat → Nat × Nat) (σ : Mem) (H : Heap) : Prop :=
  (∀ i e, gC D.2.1 ad S σ i = some e → gat D.1 (ad i) e H) ∧ (∀ i j, (S i).1 ≠ 0 → (S j).1 ≠ 0 → ad i = ad j → i = j) ∧ (∀ i, (S i).1 ≠ 0 → A (ad i)) ∧ gT S σ
theorem gC_live {d : Nat → ClassId} {ad : Nat → Nat} {S : Nat → Nat × Nat} {σ : Mem} {i : Nat} {e : gE} (h : gC d ad S σ i = some e) : (S i).1 ≠ 0 := by
  intro h0
  unfold gC at h
  have : S i = (0, (S i).2) := by rw [← h0]
  rw [this] at h
  cases h
/-- the content depends on the store at its own id alone -/
theorem gC_same {d : Nat → ClassId} {ad : Nat → Nat} {S : Nat → Nat × Nat} {σ σ' : Mem} {i : Nat} (h1 : mI σ' i = mI σ i) (h2 : mL σ' i = mL σ i) (h3 : mR σ' i = mR σ i) : gC d ad S σ' i = gC d ad S σ i := by
  have hv : ∀ c, gV ad σ' i c = gV ad σ i c := fun c => by
    funext k
    unfold gV
    rw [h1, h3]
  have hr : ∀ c, gVr ad σ' i c = gVr ad σ i c := fun c => by
    funext k
    unfold gVr
    rw [h1, h3]
  unfold gC
  rw [h1, h2, h3]
  split <;> first | rfl | (rw [hv]) | (rw [hr])
theorem gW.upd {D : gD} {A : Nat → Prop} {ad : Nat → Nat} {S : Nat → Nat × Nat} {σ σ' : Mem} {H H1 : Heap} {i : Nat} {e' : gE} (h : gW D A ad S σ H) (hi : gC D.2.1 ad S σ' i = some e') (ho : ∀ j, j ≠ i → gC D.2.1 ad S σ' j = gC D.2.1 ad S σ j) (hT : gT S σ') (hat : gat D.1 (ad i) e' H1) (oq : ∀ q : Nat, q ≠ ad i → H1[q]? = H[q]?) : gW D A ad S σ' H1 := by
  refine ⟨fun j e hj => ?_, h.2.1, h.2.2.1, hT⟩
  by_cases hji : j = i
  · subst hji
    cases hi.symm.trans hj
    exact hat
  · rw [ho j hji] at hj
    exact (h.1 j e hj).kept (oq _ (fun z => hji (h.2.1 j i (gC_live hj) (gC_live hi) z)))
def St (D : gD) (A : Nat → Prop) (ad : Nat → Nat) (S : Nat → Nat × Nat) (σ : Mem) (H0 H : Heap) (locs : List Loc) : Prop := gW D A ad S σ H ∧ va_S A H0 H locs
theorem gT_I {S : Nat → Nat × Nat} {σ : Mem} {i k : Nat} {v : Int32} (h : gT S σ) : gT S (setI σ i k v) := h
theorem gT_L {S : Nat → Nat × Nat} {σ : Mem} {i k : Nat} {v : Int64} (h : gT S σ) : gT S (setL σ i k v) := h
/-! contents by shape -/
theorem gC_1 {d : Nat → ClassId} {ad : Nat → Nat} {S : Nat → Nat × Nat} {σ : Mem} {i n : Nat} (h : S i = (1, n)) : gC d ad S σ i = some (.inl (d 1, n, .inl (mI σ i))) := by unfold gC; rw [h]
theorem gC_2 {d : Nat → ClassId} {ad : Nat → Nat} {S : Nat → Nat × Nat} {σ : Mem} {i n : Nat} (h : S i = (2, n)) : gC d ad S σ i = some (.inl (d 2, n, .inl (mI σ i))) := by unfold gC; rw [h]
theorem gC_3 {d : Nat → ClassId} {ad : Nat → Nat} {S : Nat → Nat × Nat} {σ : Mem} {i n : Nat} (h : S i = (3, n)) : gC d ad S σ i = some (.inl (d 3, n, .inl (mI σ i))) := by unfold gC; rw [h]
theorem gC_4 {d : Nat → ClassId} {ad : Nat → Nat} {S : Nat → Nat × Nat} {σ : Mem} {i n : Nat} (h : S i = (4, n)) : gC d ad S σ i = some (.inl (d 4, n, .inr (.inl (mL σ i)))) := by unfold gC; rw [h]
theorem gC_o {d : Nat → ClassId} {ad : Nat → Nat} {S : Nat → Nat × Nat} {σ : Mem} {i c : Nat} (h : S i = (c + 10, 0)) : gC d ad S σ i = some (.inr (c, gV ad σ i c)) := by unfold gC; rw [h]
def CLS (ci : Nat) (Cn : String) (T : u_T) (N : Nat) (ty : Nat → FieldType) : Prop := vwCl[ci]? = some (Cn, T, N) ∧ (∀ w ∈ u_ws Cn T N, w ∈ lw_all) ∧ (∀ k, k < N → parseFieldDescriptor (T k).2.2.1 = some (ty k)) ∧ ∀ a, a < N → ∀ b, b < N → a ≠ b → (T a).2.1 ≠ (T b).2.1
theorem cls_0 : CLS 0 RX1 TX1 39 tyX1 := ⟨rfl, in_X1, tyX1_ok, nmX1⟩
theorem cls_1 : CLS 1 RX2 TX2 3 tyX2 := ⟨rfl, in_X2, tyX2_ok, nmX2⟩
theorem cls_2 : CLS 2 RX3 TX3 17 tyX3 := ⟨rfl, in_X3, tyX3_ok, nmX3⟩
theorem cls_3 : CLS 3 RX5 TX5 1 tyX5 := ⟨rfl, in_X5, tyX5_ok, nmX5⟩
theorem cls_4 : CLS 4 RX7 TX7 5 tyX7 := ⟨rfl, in_X7, tyX7_ok, nmX7⟩
theorem cls_5 : CLS 5 RX8 TX8 4 tyX8 := ⟨rfl, in_X8, tyX8_ok, nmX8⟩
theorem cls_6 : CLS 6 RX10 TX10 3 tyX10 := ⟨rfl, in_X10, tyX10_ok, nmX10⟩
theorem cls_7 : CLS 7 RX11 TX11 1 tyX11 := ⟨rfl, in_X11, tyX11_ok, nmX11⟩
theorem cls_8 : CLS 8 RX13 TX13 3 tyX13 := ⟨rfl, in_X13, tyX13_ok, nmX13⟩
theorem cls_9 : CLS 9 RX14 TX14 1 tyX14 := ⟨rfl, in_X14, tyX14_ok, nmX14⟩
theorem cls_10 : CLS 10 RX15 TX15 1 tyX15 := ⟨rfl, in_X15, tyX15_ok, nmX15⟩
theorem cls_11 : CLS 11 RX16 TX16 3 tyX16 := ⟨rfl, in_X16, tyX16_ok, nmX16⟩
theorem cls_12 : CLS 12 RX17 TX17 3 tyX17 := ⟨rfl, in_X17, tyX17_ok, nmX17⟩
theorem cls_13 : CLS 13 RX18 TX18 4 tyX18 := ⟨rfl, in_X18, tyX18_ok, nmX18⟩
theorem cls_14 : CLS 14 RX6 TX6 63 tyX6 := ⟨rfl, in_X6, tyX6_ok, nmX6⟩
theorem cls_15 : CLS 15 RX9 TX9 7 tyX9 := ⟨rfl, in_X9, tyX9_ok, nmX9⟩
theorem cls_16 : CLS 16 RJ9 TJ9 6 tyJ9 := ⟨rfl, in_J9, tyJ9_ok, nmJ9⟩
def Cx (D : gD) (E : State → Prop) (A : Nat → Prop) (own : String) (s : State) (m : MethodId) (args : Array Value) : Prop := s.vm.findClass own = some m.cls ∧ (∀ w ∈ lw_all, w.before args s = true) ∧ Kx D E s ∧ (∀ q, s.heap.size ≤ q → A q) ∧ ∀ q, ¬ A q → s.heap[q]? = D.2.2[q]?
def Cz (D : gD) (E : State → Prop) (A : Nat → Prop) (cc : ByteArray) (nL : Nat) (ret : Option FieldType) (own : String) (p : Program) (s : State) (m : MethodId) (args : Array Value) (meth : Method) (c : Code) : Prop := p.tables.exec = Jvm.exec ∧ c.code = cc ∧ meth.sig.returnType = ret ∧ meth.locks = false ∧ c.maxLocals = nL ∧ Cx D E A own s m args
def PreG (D : gD) (E : State → Prop) (A : Nat → Prop) (ad : Nat → Nat) (S : Nat → Nat × Nat) (σ : Mem) (U : State) : Prop := gW D A ad S σ U.heap ∧ Kx D E U ∧ (∀ q, U.heap.size ≤ q → A q) ∧ ∀ q, ¬ A q → U.heap[q]? = D.2.2[q]?
def QG (D : gD) (A : Nat → Prop) (ad : Nat → Nat) (S : Nat → Nat × Nat) (v : Option Value) (σ' : Mem) : Array Value → State → Outcome → State → Prop := fun _ st o t => o = .returned v ∧ gW D A ad S σ' t.heap ∧ va_F A st t
section YR
variable {p : Program} {l : Launch} {e : Env} {R : Room} {s : State} {m : MethodId} {args : Array Value} {below : List Frame} {meth : Method} {c : Code} {H : Heap} {locs : List Loc} {cells slots : Nat} {Q : State → Prop}
variable {cc : ByteArray} {pc : Nat} {ls : Array Slot} {rest : List Value} {D : gD} {E : State → Prop} {A : Nat → Prop} {ad : Nat → Nat} {S : Nat → Nat × Nat} {σ : Mem} {own : String} {i : Nat}
/-- a field's value, whatever it is -/
theorem y_get {idx ci k N : Nat} {Cn : String} {T : u_T} {ty : Nat → FieldType} {v : Value} (hx : p.tables.exec = Jvm.exec) (hb : c.code = cc) (X : Cx D E A own s m args) (hS : St D A ad S σ s.heap H locs) (K : CLS ci Cn T N ty) (hsh : S i = (ci + 10, 0)) (hk : k < N) (hv : gV ad σ i ci k = v) (hl : Cond.fieldLink own idx (T k).1 (T k).2.1 (T k).2.2.1 ∈ lw_all) (hd : decode cc pc = .ok (.getfield idx, 3))
    (kk : W p l e R s m args below meth c H locs cells slots Q (F0 m (pc + 3) ls (v :: rest))) : W p l e R s m args below meth c H locs cells slots Q (F0 m pc ls (.ref (ad i) :: rest)) := by
  obtain ⟨hown, hts, hK, -⟩ := X
  obtain ⟨r, h1, cell, q1, q2, q3, q4⟩ := hS.1.1 i _ (gC_o hsh)
  have hr : r = (Cn, T, N) := Option.some.inj (h1.symm.trans K.1)
  subst hr
  obtain ⟨hSl, hfc, kC, hkC, hkind⟩ := hK.1.1 ci _ K.1
  obtain ⟨cf, kf, fi, f, hi, hsl⟩ := hSl k hk
  refine W.getf hx hb hown (hts _ hl) hi (u_facts hfc hkC (u_lays hts K.2.1 hk) hi).1 q1 (by rw [q3]; exact fun h => by cases h) (v := v) ?_ rfl rfl hd kk
  rw [hsl, q4 k hk]
  exact congrArg some hv
theorem y_geti {idx ci k N : Nat} {Cn : String} {T : u_T} {ty : Nat → FieldType} (hx : p.tables.exec = Jvm.exec) (hb : c.code = cc) (X : Cx D E A own s m args) (hS : St D A ad S σ s.heap H locs) (K : CLS ci Cn T N ty) (hsh : S i = (ci + 10, 0)) (hk : k < N) (hf : fk ci k = 0) (hl : Cond.fieldLink own idx (T k).1 (T k).2.1 (T k).2.2.1 ∈ lw_all) (hd : decode cc pc = .ok (.getfield idx, 3))
    (kk : W p l e R s m args below meth c H locs cells slots Q (F0 m (pc + 3) ls (.int (mI σ i k) :: rest))) : W p l e R s m args below meth c H locs cells slots Q (F0 m pc ls (.ref (ad i) :: rest)) :=
  y_get hx hb X hS K hsh hk (by unfold gV; rw [hf]) hl hd kk
theorem y_getr {idx ci k N : Nat} {Cn : String} {T : u_T} {ty : Nat → FieldType} (hx : p.tables.exec = Jvm.exec) (hb : c.code = cc) (X : Cx D E A own s m args) (hS : St D A ad S σ s.heap H locs) (K : CLS ci Cn T N ty) (hsh : S i = (ci + 10, 0)) (hk : k < N) (hf : fk ci k = 1) (hl : Cond.fieldLink own idx (T k).1 (T k).2.1 (T k).2.2.1 ∈ lw_all) (hd : decode cc pc = .ok (.getfield idx, 3))
    (kk : W p l e R s m args below meth c H locs cells slots Q (F0 m (pc + 3) ls (va_rf ((mR σ i k).map ad) :: rest))) : W p l e R s m args below meth c H locs cells slots Q (F0 m pc ls (.ref (ad i) :: rest)) :=
  y_get hx hb X hS K hsh hk (by unfold gV; rw [hf]) hl hd kk
theorem y_getc {idx ci k N n j : Nat} {sh : Nat × Nat} {Cn : String} {T : u_T} {ty : Nat → FieldType} (hx : p.tables.exec = Jvm.exec) (hb : c.code = cc) (X : Cx D E A own s m args) (hS : St D A ad S σ s.heap H locs) (K : CLS ci Cn T N ty) (hsh : S i = (ci + 10, 0)) (hk : k < N) (hf : fk ci k = n + 2) (hj : i + n = j) (he : shF ci k = sh) (hl : Cond.fieldLink own idx (T k).1 (T k).2.1 (T k).2.2.1 ∈ lw_all) (hd : decode cc pc = .ok (.getfield idx, 3))
    (kk : S j = sh → W p l e R s m args below meth c H locs cells slots Q (F0 m (pc + 3) ls (.ref (ad j) :: rest))) : W p l e R s m args below meth c H locs cells slots Q (F0 m pc ls (.ref (ad i) :: rest)) := by
  subst hj
  subst he
  exact y_get hx hb X hS K hsh hk (by unfold gV; rw [hf]) hl hd (kk ((hS.1.2.2.2.1 i ci hsh k).2 n hf))
/-- a field is written: what the row of the machine asks and gives -/
theorem y_put {idx ci k N : Nat} {Cn : String} {T : u_T} {ty : Nat → FieldType} {v : Value} {σ' : Mem} {ft : FieldType} (hx : p.tables.exec = Jvm.exec) (hb : c.code = cc) (X : Cx D E A own s m args) (hS : St D A ad S σ s.heap H locs) (K : CLS ci Cn T N ty) (hsh : S i = (ci + 10, 0)) (hk : k < N) (hfin : (T k).2.2.2 = false) (hty : parseFieldDescriptor (T k).2.2.1 = some ft) (hn : narrow ft v = v) (hfit : fits ft v = true)
    (hv : gV ad σ' i ci = updV (gV ad σ i ci) k v) (ho : ∀ j, j ≠ i → gC D.2.1 ad S σ' j = gC D.2.1 ad S σ j) (hT : gT S σ') (hl : Cond.fieldLink own idx (T k).1 (T k).2.1 (T k).2.2.1 ∈ lw_all) (hd : decode cc pc = .ok (.putfield idx, 3))
    (kk : ∀ (H1 : Heap) (locs1 : List Loc), St D A ad S σ' s.heap H1 locs1 → W p l e R s m args below meth c H1 locs1 cells slots Q (F0 m (pc + 3) ls rest)) : W p l e R s m args below meth c H locs cells slots Q (F0 m pc ls (v :: .ref (ad i) :: rest)) := by
  obtain ⟨hown, hts, hK, -⟩ := X
  have hap := va_apart (own := own) hts K.2.1 ty K.2.2.1 K.2.2.2 hK.1 K.1
  obtain ⟨r, h1, cell, q1, q2, q3, q4⟩ := hS.1.1 i _ (gC_o hsh)
  have hr : r = (Cn, T, N) := Option.some.inj (h1.symm.trans K.1)
  subst hr
  obtain ⟨hSl, hfc, kC, hkC, hkind⟩ := hK.1.1 ci _ K.1
  obtain ⟨cf, kf, fi, f, hi, hsl⟩ := hSl k hk
  have hlay := hts _ (K.2.1 _ (u_in_lay hk))
  unfold u_lay at hlay
  rw [if_neg (by rw [hfin]; decide)] at hlay
  have hst := (u_facts hfc hkC (u_lays hts K.2.1 hk) hi).1
  have h6 := u_store hfc hkC hkind hlay hi hty hn hfit
  refine W.putK hx hb (f := f) ⟨hown, hts _ hl, ⟨_, _, _, hi⟩, hst⟩ (by rw [q2]; exact h6) q1 q3 (by rw [hsl]; exact k2_hasslot (q4 k hk)) rfl rfl hd fun H' e1 e2 e3 => ?_
  rw [hsl] at e1 ⊢
  refine kk H' _ ⟨hS.1.upd (gC_o hsh) ho hT ⟨_, K.1, ?_⟩ e3, hS.2.put e2 e3 (hS.1.2.2.1 i (gC_live (gC_o hsh (d := D.2.1) (ad := ad) (σ := σ))))⟩
  exact t_OB.to (V := updV (gV ad σ i ci) k v) ⟨_, e1, q2, q3, t_set q4 hap hk v⟩ (fun j _ => by rw [hv])
theorem gV_setI {i ci k : Nat} {v : Int32} (hf : fk ci k = 0) : gV ad (setI σ i k v) i ci = updV (gV ad σ i ci) k (.int v) := by
  funext j
  unfold updV
  by_cases hj : j = k
  · subst hj
    rw [if_pos rfl]
    unfold gV
    rw [hf]
    simp [mI_setI]
  · rw [if_neg hj]
    unfold gV
    rw [mR_setI]
    simp [mI_setI, hj]
theorem gC_setI {d : Nat → ClassId} {k : Nat} {v : Int32} : ∀ j, j ≠ i → gC d ad S (setI σ i k v) j = gC d ad S σ j := fun j hj => gC_same (mI_ne σ k v hj) rfl rfl
theorem y_puti {idx ci k N : Nat} {Cn : String} {T : u_T} {ty : Nat → FieldType} {v : Int32} (hx : p.tables.exec = Jvm.exec) (hb : c.code = cc) (X : Cx D E A own s m args) (hS : St D A ad S σ s.heap H locs) (K : CLS ci Cn T N ty) (hsh : S i = (ci + 10, 0)) (hk : k < N) (hf : fk ci k = 0) (hfin : (T k).2.2.2 = false) (hty : ty k = .int) (hl : Cond.fieldLink own idx (T k).1 (T k).2.1 (T k).2.2.1 ∈ lw_all) (hd : decode cc pc = .ok (.putfield idx, 3))
    (kk : ∀ (H1 : Heap) (locs1 : List Loc), St D A ad S (setI σ i k v) s.heap H1 locs1 → W p l e R s m args below meth c H1 locs1 cells slots Q (F0 m (pc + 3) ls rest)) : W p l e R s m args below meth c H locs cells slots Q (F0 m pc ls (.int v :: .ref (ad i) :: rest)) :=
  y_put hx hb X hS K hsh hk hfin ((K.2.2.1 k hk).trans (congrArg some hty)) rfl rfl (gV_setI hf) gC_setI hS.1.2.2.2 hl hd kk
/-! arrays -/
theorem y_iald {n : Nat} {j : Int32} (hx : p.tables.exec = Jvm.exec) (hb : c.code = cc) (X : Cx D E A own s m args) (hS : St D A ad S σ s.heap H locs) (hsh : S i = (1, n)) (hin : inb j n = true) (hd : decode cc pc = .ok (.iaload, 1))
    (kk : W p l e R s m args below meth c H locs cells slots Q (F0 m (pc + 1) ls (.int (mI σ i j.toNatClampNeg) :: rest))) : W p l e R s m args below meth c H locs cells slots Q (F0 m pc ls (.int j :: .ref (ad i) :: rest)) :=
  va_iald (D := D.1) (cl := vwCl) (ws := [(ad i, .inl (D.2.1 1, n, .inl (mI σ i)))]) hx hb X.2.2.1.1 (fun k q hq => by
    cases k with
    | zero => cases hq; exact hS.1.1 i _ (gC_1 hsh)
    | succ k => simp at hq) 0 0 rfl rfl (inb_in hin) hd kk
theorem y_bald {n : Nat} {j : Int32} (hx : p.tables.exec = Jvm.exec) (hb : c.code = cc) (X : Cx D E A own s m args) (hS : St D A ad S σ s.heap H locs) (hsh : S i = (2, n)) (hin : inb j n = true) (hd : decode cc pc = .ok (.baload, 1))
    (kk : W p l e R s m args below meth c H locs cells slots Q (F0 m (pc + 1) ls (.int (mI σ i j.toNatClampNeg) :: rest))) : W p l e R s m args below meth c H locs cells slots Q (F0 m pc ls (.int j :: .ref (ad i) :: rest)) :=
  va_bald (D := D.1) (cl := vwCl) (ws := [(ad i, .inl (D.2.1 2, n, .inl (mI σ i)))]) hx hb X.2.2.1.1 (fun k q hq => by
    cases k with
    | zero => cases hq; exact hS.1.1 i _ (gC_2 hsh)
    | succ k => simp at hq) 0 1 rfl rfl (inb_in hin) hd kk
theorem y_zald {n : Nat} {j : Int32} (hx : p.tables.exec = Jvm.exec) (hb : c.code = cc) (X : Cx D E A own s m args) (hS : St D A ad S σ s.heap H locs) (hsh : S i = (3, n)) (hin : inb j n = true) (hd : decode cc pc = .ok (.baload, 1))
    (kk : W p l e R s m args below meth c H locs cells slots Q (F0 m (pc + 1) ls (.int (mI σ i j.toNatClampNeg) :: rest))) : W p l e R s m args below meth c H locs cells slots Q (F0 m pc ls (.int j :: .ref (ad i) :: rest)) :=
  va_zald (D := D.1) (cl := vwCl) (ws := [(ad i, .inl (D.2.1 3, n, .inl (mI σ i)))]) hx hb X.2.2.1.1 (fun k q hq => by
    cases k with
    | zero => cases hq; exact hS.1.1 i _ (gC_3 hsh)
    | succ k => simp at hq) 0 2 rfl rfl (inb_in hin) hd kk
theorem y_lald {n : Nat} {j : Int32} (hx : p.tables.exec = Jvm.exec) (hb : c.code = cc) (X : Cx D E A own s m args) (hS : St D A ad S σ s.heap H locs) (hsh : S i = (4, n)) (hin : inb j n = true) (hd : decode cc pc = .ok (.laload, 1))
    (kk : W p l e R s m args below meth c H locs cells slots Q (F0 m (pc + 1) ls (.long (mL σ i j.toNatClampNeg) :: rest))) : W p l e R s m args below meth c H locs cells slots Q (F0 m pc ls (.int j :: .ref (ad i) :: rest)) :=
  va_lald (D := D.1) (cl := vwCl) (ws := [(ad i, .inl (D.2.1 4, n, .inr (.inl (mL σ i))))]) hx hb X.2.2.1.1 (fun k q hq => by
    cases k with
    | zero => cases hq; exact hS.1.1 i _ (gC_4 hsh)
    | succ k => simp at hq) 0 3 rfl rfl (inb_in hin) hd kk
theorem y_iast {n : Nat} {j v : Int32} (hx : p.tables.exec = Jvm.exec) (hb : c.code = cc) (X : Cx D E A own s m args) (hS : St D A ad S σ s.heap H locs) (hsh : S i = (1, n)) (hin : inb j n = true) (hd : decode cc pc = .ok (.iastore, 1))
    (kk : ∀ (H1 : Heap) (locs1 : List Loc), St D A ad S (setI σ i j.toNatClampNeg v) s.heap H1 locs1 → W p l e R s m args below meth c H1 locs1 cells slots Q (F0 m (pc + 1) ls rest)) : W p l e R s m args below meth c H locs cells slots Q (F0 m pc ls (.int v :: .int j :: .ref (ad i) :: rest)) := by
  have hin := inb_in hin
  refine W.iast hx hb (hS.1.1 i _ (gC_1 hsh)) ((X.2.2.1.1.2 0 _ rfl).1 n (fun j => .int (mI σ i j))) (fun q => by cases q) (by show ¬ (j < 0 ∨ (arrV _ _ _).slots.size ≤ _); rw [arrV_size]; exact hin) rfl rfl hd fun H1 e z oq => ?_
  refine kk H1 _ ⟨hS.1.upd (gC_1 hsh) gC_setI hS.1.2.2.2 ?_ oq, hS.2.put z oq (hS.1.2.2.1 i (by rw [hsh]; exact Nat.succ_ne_zero _))⟩
  show H1[ad i]? = some (vp_cell _ _)
  rw [e, vp_cell_i, vp_cell_i, arrV_store, mI_fn]
  congr 2
  funext q
  by_cases hq : q = j.toNatClampNeg
  · subst hq
    simp [updV, upd]
  · simp [updV, upd, hq]
theorem y_zast {n : Nat} {j v : Int32} (hx : p.tables.exec = Jvm.exec) (hb : c.code = cc) (X : Cx D E A own s m args) (hS : St D A ad S σ s.heap H locs) (hsh : S i = (3, n)) (hin : inb j n = true) (hz : isz v = true) (hd : decode cc pc = .ok (.bastore, 1))
    (kk : ∀ (H1 : Heap) (locs1 : List Loc), St D A ad S (setI σ i j.toNatClampNeg v) s.heap H1 locs1 → W p l e R s m args below meth c H1 locs1 cells slots Q (F0 m (pc + 1) ls rest)) : W p l e R s m args below meth c H locs cells slots Q (F0 m pc ls (.int v :: .int j :: .ref (ad i) :: rest)) := by
  have hin := inb_in hin
  have hz := isz_nar hz
  refine W.zast hx hb (hS.1.1 i _ (gC_3 hsh)) ((X.2.2.1.1.2 2 _ rfl).1 n (fun j => .int (mI σ i j))) (fun q => by cases q) (by show ¬ (j < 0 ∨ (arrV _ _ _).slots.size ≤ _); rw [arrV_size]; exact hin) rfl rfl hd fun H1 e z oq => ?_
  refine kk H1 _ ⟨hS.1.upd (gC_3 hsh) gC_setI hS.1.2.2.2 ?_ oq, hS.2.put z oq (hS.1.2.2.1 i (by rw [hsh]; exact Nat.succ_ne_zero _))⟩
  show H1[ad i]? = some (vp_cell _ _)
  rw [e, vp_cell_i, vp_cell_i, arrV_store, mI_fn]
  congr 2
  funext q
  by_cases hq : q = j.toNatClampNeg
  · subst hq
    simp [updV, upd, hz]
  · simp [updV, upd, hq]
theorem y_bast {n : Nat} {j v : Int32} (hx : p.tables.exec = Jvm.exec) (hb : c.code = cc) (X : Cx D E A own s m args) (hS : St D A ad S σ s.heap H locs) (hsh : S i = (2, n)) (hin : inb j n = true) (hd : decode cc pc = .ok (.bastore, 1))
    (kk : ∀ (H1 : Heap) (locs1 : List Loc), St D A ad S (setI σ i j.toNatClampNeg v.toInt8.toInt32) s.heap H1 locs1 → W p l e R s m args below meth c H1 locs1 cells slots Q (F0 m (pc + 1) ls rest)) : W p l e R s m args below meth c H locs cells slots Q (F0 m pc ls (.int v :: .int j :: .ref (ad i) :: rest)) := by
  have hin := inb_in hin
  refine W.bast hx hb (hS.1.1 i _ (gC_2 hsh)) ((X.2.2.1.1.2 1 _ rfl).1 n (fun j => .int (mI σ i j))) (fun q => by cases q) (by show ¬ (j < 0 ∨ (arrV _ _ _).slots.size ≤ _); rw [arrV_size]; exact hin) rfl rfl hd fun H1 e z oq => ?_
  refine kk H1 _ ⟨hS.1.upd (gC_2 hsh) gC_setI hS.1.2.2.2 ?_ oq, hS.2.put z oq (hS.1.2.2.1 i (by rw [hsh]; exact Nat.succ_ne_zero _))⟩
  show H1[ad i]? = some (vp_cell _ _)
  rw [e, vp_cell_i, vp_cell_i, arrV_store, mI_fn]
  congr 2
  funext q
  by_cases hq : q = j.toNatClampNeg
  · subst hq
    simp [updV, upd, narrow_byte]
  · simp [updV, upd, hq]
theorem y_last {n : Nat} {j : Int32} {v : Int64} (hx : p.tables.exec = Jvm.exec) (hb : c.code = cc) (X : Cx D E A own s m args) (hS : St D A ad S σ s.heap H locs) (hsh : S i = (4, n)) (hin : inb j n = true) (hd : decode cc pc = .ok (.lastore, 1))
    (kk : ∀ (H1 : Heap) (locs1 : List Loc), St D A ad S (setL σ i j.toNatClampNeg v) s.heap H1 locs1 → W p l e R s m args below meth c H1 locs1 cells slots Q (F0 m (pc + 1) ls rest)) : W p l e R s m args below meth c H locs cells slots Q (F0 m pc ls (.long v :: .int j :: .ref (ad i) :: rest)) := by
  have hin := inb_in hin
  refine W.last hx hb (hS.1.1 i _ (gC_4 hsh)) ((X.2.2.1.1.2 3 _ rfl).1 n (fun j => .long (mL σ i j))) (fun q => by cases q) (by show ¬ (j < 0 ∨ (arrV _ _ _).slots.size ≤ _); rw [arrV_size]; exact hin) rfl rfl hd fun H1 e z oq => ?_
  refine kk H1 _ ⟨hS.1.upd (gC_4 hsh) (fun q hq => gC_same rfl (mL_ne σ _ v hq) rfl) hS.1.2.2.2 ?_ oq, hS.2.put z oq (hS.1.2.2.1 i (by rw [hsh]; exact Nat.succ_ne_zero _))⟩
  show H1[ad i]? = some (vp_cell _ _)
  rw [e, vp_cell_l, vp_cell_l, arrV_store, mL_fn]
  congr 2
  funext q
  by_cases hq : q = j.toNatClampNeg
  · subst hq
    simp [updV, vp_updL]
  · simp [updV, vp_updL, hq]
/-! longs compared and branched on at once -/
theorem y_lcmp_le {x y : Int64} {off : Int} {tgt : Nat} (hx : p.tables.exec = Jvm.exec) (hb : c.code = cc) (hd : decode cc pc = .ok (.lcmp, 1)) (hd2 : decode cc (pc + 1) = .ok (.ifCond .le off, 3)) (ht : ((pc + 1 : Nat) : Int) + off = (tgt : Int))
    (kt : x ≤ y → W p l e R s m args below meth c H locs cells slots Q (F0 m tgt ls rest)) (kf : ¬ x ≤ y → W p l e R s m args below meth c H locs cells slots Q (F0 m (pc + 1 + 3) ls rest)) : W p l e R s m args below meth c H locs cells slots Q (F0 m pc ls (.long y :: .long x :: rest)) :=
  W.lcmp hx hb hd (lv_if_le hx hb hd2 ht (fun h => kt ((lg_cmp_le x y).mp h)) (fun h => kf (fun q => h ((lg_cmp_le x y).mpr q))))
theorem y_lcmp_ge {x y : Int64} {off : Int} {tgt : Nat} (hx : p.tables.exec = Jvm.exec) (hb : c.code = cc) (hd : decode cc pc = .ok (.lcmp, 1)) (hd2 : decode cc (pc + 1) = .ok (.ifCond .ge off, 3)) (ht : ((pc + 1 : Nat) : Int) + off = (tgt : Int))
    (kt : y ≤ x → W p l e R s m args below meth c H locs cells slots Q (F0 m tgt ls rest)) (kf : ¬ y ≤ x → W p l e R s m args below meth c H locs cells slots Q (F0 m (pc + 1 + 3) ls rest)) : W p l e R s m args below meth c H locs cells slots Q (F0 m pc ls (.long y :: .long x :: rest)) :=
  W.lcmp hx hb hd (lv_if_ge hx hb hd2 ht (fun h => kt ((lg_cmp_ge x y).mp h)) (fun h => kf (fun q => h ((lg_cmp_ge x y).mpr q))))
theorem y_lcmp_lt {x y : Int64} {off : Int} {tgt : Nat} (hx : p.tables.exec = Jvm.exec) (hb : c.code = cc) (hd : decode cc pc = .ok (.lcmp, 1)) (hd2 : decode cc (pc + 1) = .ok (.ifCond .lt off, 3)) (ht : ((pc + 1 : Nat) : Int) + off = (tgt : Int))
    (kt : x < y → W p l e R s m args below meth c H locs cells slots Q (F0 m tgt ls rest)) (kf : ¬ x < y → W p l e R s m args below meth c H locs cells slots Q (F0 m (pc + 1 + 3) ls rest)) : W p l e R s m args below meth c H locs cells slots Q (F0 m pc ls (.long y :: .long x :: rest)) :=
  W.lcmp hx hb hd (lv_if_lt hx hb hd2 ht (fun h => kt ((lg_cmp_lt x y).mp h)) (fun h => kf (fun q => h ((lg_cmp_lt x y).mpr q))))
theorem y_lcmp_gt {x y : Int64} {off : Int} {tgt : Nat} (hx : p.tables.exec = Jvm.exec) (hb : c.code = cc) (hd : decode cc pc = .ok (.lcmp, 1)) (hd2 : decode cc (pc + 1) = .ok (.ifCond .gt off, 3)) (ht : ((pc + 1 : Nat) : Int) + off = (tgt : Int))
    (kt : y < x → W p l e R s m args below meth c H locs cells slots Q (F0 m tgt ls rest)) (kf : ¬ y < x → W p l e R s m args below meth c H locs cells slots Q (F0 m (pc + 1 + 3) ls rest)) : W p l e R s m args below meth c H locs cells slots Q (F0 m pc ls (.long y :: .long x :: rest)) :=
  W.lcmp hx hb hd (lv_if_gt hx hb hd2 ht (fun h => kt ((lg_cmp_gt x y).mp h)) (fun h => kf (fun q => h ((lg_cmp_gt x y).mpr q))))
theorem y_lcmp_eq {x y : Int64} {off : Int} {tgt : Nat} (hx : p.tables.exec = Jvm.exec) (hb : c.code = cc) (hd : decode cc pc = .ok (.lcmp, 1)) (hd2 : decode cc (pc + 1) = .ok (.ifCond .eq off, 3)) (ht : ((pc + 1 : Nat) : Int) + off = (tgt : Int))
    (kt : x = y → W p l e R s m args below meth c H locs cells slots Q (F0 m tgt ls rest)) (kf : ¬ x = y → W p l e R s m args below meth c H locs cells slots Q (F0 m (pc + 1 + 3) ls rest)) : W p l e R s m args below meth c H locs cells slots Q (F0 m pc ls (.long y :: .long x :: rest)) :=
  W.lcmp hx hb hd (lv_if_eq hx hb hd2 ht (fun h => kt ((lg_cmp_eq x y).mp h)) (fun h => kf (fun q => h ((lg_cmp_eq x y).mpr q))))
theorem y_lcmp_ne {x y : Int64} {off : Int} {tgt : Nat} (hx : p.tables.exec = Jvm.exec) (hb : c.code = cc) (hd : decode cc pc = .ok (.lcmp, 1)) (hd2 : decode cc (pc + 1) = .ok (.ifCond .ne off, 3)) (ht : ((pc + 1 : Nat) : Int) + off = (tgt : Int))
    (kt : ¬ x = y → W p l e R s m args below meth c H locs cells slots Q (F0 m tgt ls rest)) (kf : x = y → W p l e R s m args below meth c H locs cells slots Q (F0 m (pc + 1 + 3) ls rest)) : W p l e R s m args below meth c H locs cells slots Q (F0 m pc ls (.long y :: .long x :: rest)) :=
  W.lcmp hx hb hd (lv_if_ne hx hb hd2 ht (fun h => kt (fun q => h ((lg_cmp_eq x y).mpr q))) (fun h => kf ((lg_cmp_eq x y).mp h)))
/-! Math -/
theorem y_imax {index : Nat} (hx : p.tables.exec = Jvm.exec) (hb : c.code = cc) (hml : c.maxLocals = ls.size) (X : Cx D E A own s m args) (hl : Cond.methodLink own index Lib.Math.max.name ∈ lw_all) (hfr : 1 ≤ R.frames) (hlo : (rest.map fun v => v.category).sum + 13 ≤ R.locals) (hc : cells ≤ R.cells) (hs : slots ≤ R.slots) {x y : Int32} (hd : decode cc pc = .ok (.invokestatic index, 3))
    (kk : W p l e R s m args below meth c H locs cells slots Q (F0 m (pc + 3) ls (.int (imax x y) :: rest))) : W p l e R s m args below meth c H locs cells slots Q (F0 m pc ls (.int y :: .int x :: rest)) :=
  va_mmax hx hb hml X.1 (X.2.1 _ hl) (X.2.1 _ q435) (X.2.1 _ q83) (X.2.1 _ q436) hfr hlo hc hs hd kk
theorem y_imin {index : Nat} (hx : p.tables.exec = Jvm.exec) (hb : c.code = cc) (hml : c.maxLocals = ls.size) (X : Cx D E A own s m args) (hl : Cond.methodLink own index Lib.Math.min.name ∈ lw_all) (hfr : 1 ≤ R.frames) (hlo : (rest.map fun v => v.category).sum + 13 ≤ R.locals) (hc : cells ≤ R.cells) (hs : slots ≤ R.slots) {x y : Int32} (hd : decode cc pc = .ok (.invokestatic index, 3))
    (kk : W p l e R s m args below meth c H locs cells slots Q (F0 m (pc + 3) ls (.int (imin x y) :: rest))) : W p l e R s m args below meth c H locs cells slots Q (F0 m pc ls (.int y :: .int x :: rest)) :=
  va_mmin hx hb hml X.1 (X.2.1 _ hl) (X.2.1 _ q571) (X.2.1 _ q83) (X.2.1 _ q572) hfr hlo hc hs hd kk
theorem y_lmax {index : Nat} (hx : p.tables.exec = Jvm.exec) (hb : c.code = cc) (hml : c.maxLocals = ls.size) (X : Cx D E A own s m args) (hl : Cond.methodLink own index Lib.MathLoose.max_long.x ∈ lw_all) (hfr : 1 ≤ R.frames) (hlo : (rest.map fun v => v.category).sum + 15 ≤ R.locals) (hc : cells ≤ R.cells) (hs : slots ≤ R.slots) {x y : Int64} (hd : decode cc pc = .ok (.invokestatic index, 3))
    (kk : W p l e R s m args below meth c H locs cells slots Q (F0 m (pc + 3) ls (.long (lmax x y) :: rest))) : W p l e R s m args below meth c H locs cells slots Q (F0 m pc ls (.long y :: .long x :: rest)) :=
  va_mmax_long hx hb hml X.1 (X.2.1 _ hl) (X.2.1 _ q948) (X.2.1 _ q83) (X.2.1 _ q949) hfr hlo hc hs hd kk
theorem y_lmin {index : Nat} (hx : p.tables.exec = Jvm.exec) (hb : c.code = cc) (hml : c.maxLocals = ls.size) (X : Cx D E A own s m args) (hl : Cond.methodLink own index Lib.MathLoose.min_long.x ∈ lw_all) (hfr : 1 ≤ R.frames) (hlo : (rest.map fun v => v.category).sum + 15 ≤ R.locals) (hc : cells ≤ R.cells) (hs : slots ≤ R.slots) {x y : Int64} (hd : decode cc pc = .ok (.invokestatic index, 3))
    (kk : W p l e R s m args below meth c H locs cells slots Q (F0 m (pc + 3) ls (.long (lmin x y) :: rest))) : W p l e R s m args below meth c H locs cells slots Q (F0 m pc ls (.long y :: .long x :: rest)) :=
  va_mmin_long hx hb hml X.1 (X.2.1 _ hl) (X.2.1 _ q945) (X.2.1 _ q83) (X.2.1 _ q946) hfr hlo hc hs hd kk
/-! returns -/
theorem y_iret {v : Int32} (hx : p.tables.exec = Jvm.exec) (hb : c.code = cc) (hr : meth.sig.returnType = some .int) (hlk : meth.locks = false) (hS : St D A ad S σ s.heap H locs) (hd : decode cc pc = .ok (.ireturn, 1)) : W p l e R s m args below meth c H locs cells slots (MQ below (QG D A ad S (some (.int v)) σ) args s cells slots A) (F0 m pc ls [.int v]) :=
  W.iret hx hb hr (fun t ht _ => ⟨rfl, by rw [ht]; exact hS.1, hS.2.F ht⟩) hS.2.2.2 hd hlk
theorem y_zret {v : Int32} (hx : p.tables.exec = Jvm.exec) (hb : c.code = cc) (hr : meth.sig.returnType = some .boolean) (hlk : meth.locks = false) (hz : isz v = true) (hS : St D A ad S σ s.heap H locs) (hd : decode cc pc = .ok (.ireturn, 1)) : W p l e R s m args below meth c H locs cells slots (MQ below (QG D A ad S (some (.int v)) σ) args s cells slots A) (F0 m pc ls [.int v]) :=
  W.zret hx hb hr (isz_nar hz) (fun t ht _ => ⟨rfl, by rw [ht]; exact hS.1, hS.2.F ht⟩) hS.2.2.2 hd hlk
theorem y_lret {v : Int64} (hx : p.tables.exec = Jvm.exec) (hb : c.code = cc) (hr : meth.sig.returnType = some .long) (hlk : meth.locks = false) (hS : St D A ad S σ s.heap H locs) (hd : decode cc pc = .ok (.lreturn, 1)) : W p l e R s m args below meth c H locs cells slots (MQ below (QG D A ad S (some (.long v)) σ) args s cells slots A) (F0 m pc ls [.long v]) :=
  W.lret hx hb hr (fun t ht _ => ⟨rfl, by rw [ht]; exact hS.1, hS.2.F ht⟩) hS.2.2.2 hd hlk
theorem y_vret (hx : p.tables.exec = Jvm.exec) (hb : c.code = cc) (hr : meth.sig.returnType = none) (hlk : meth.locks = false) (hS : St D A ad S σ s.heap H locs) (hd : decode cc pc = .ok (.return_, 1)) : W p l e R s m args below meth c H locs cells slots (MQ below (QG D A ad S none σ) args s cells slots A) (F0 m pc ls []) :=
  W.vret hx hb hr (fun t ht _ => ⟨rfl, by rw [ht]; exact hS.1, hS.2.F ht⟩) hS.2.2.2 hd hlk
/-! calls -/
theorem PreG.blind {av : List Value} : FrameBlind (va_Pc av (PreG D E A ad S σ)) := fun a U g mk q => by
  obtain ⟨q0, q1, q2, q3⟩ := q
  exact ⟨q0, q1, Kx.moved (s := U) (U := U.calling g mk a) (State.WarmedH.refl U) q2, q3⟩
theorem PreG.at {av : List Value} (X : Cx D E A own s m args) (hS : St D A ad S σ s.heap H locs) (U : State) (hU : U.heap = H) (hW : s.WarmedH U.vm) : va_Pc av (PreG D E A ad S σ) av.toArray U :=
  ⟨rfl, by rw [hU]; exact hS.1, Kx.moved hW X.2.2.1, fun q hq => X.2.2.2.1 q (Nat.le_trans hS.2.1 (by rw [hU] at hq; exact hq)), fun q hq => by
    rw [hU]
    exact (hS.2.2.1 q (Nat.lt_of_not_le fun z => hq (X.2.2.2.1 q z)) hq).trans (X.2.2.2.2 q hq)⟩
theorem y_go {mc ms : Nat} {st0 : List Value} {v : Option Value} {σ' : Mem} {a : Array Value} (hr : va_Run p l e R s m args below meth c H locs cells slots mc ms (F0 m pc ls st0) rest (QG D A ad S v σ' a) A) (hS : va_S A s.heap H locs)
    (kk : ∀ (H1 : Heap) (locs1 : List Loc), St D A ad S σ' s.heap H1 locs1 → W p l e R s m args below meth c H1 locs1 (cells + mc) (slots + ms) Q (F0 m (pc + 3) ls (v.toList ++ rest))) : W p l e R s m args below meth c H locs cells slots Q (F0 m pc ls st0) := by
  intro T hT X
  obtain ⟨v', st₀, t, T', L, h0, X', hL, e1, e2, ⟨hv, hw, hz, hk⟩, st⟩ := hr T hT X
  cases hv
  rw [h0] at hz hk
  obtain ⟨t2, a1, b1⟩ := kk T'.heap (locs ++ L) ⟨by rw [e1]; exact hw, Nat.le_trans hS.1 (by rw [e1]; exact hz), fun q h1 h2 => by rw [e1, hk q (Nat.lt_of_lt_of_le h1 hS.1) h2]; exact hS.2.1 q h1 h2, fun q hq => by
      rcases List.mem_append.mp hq with h | h
      · exact hS.2.2 q h
      · exact hL q h⟩ T' rfl X'
  exact ⟨t2, st t2 a1, b1⟩
theorem g_recv {ci N : Nat} {Cn : String} {T : u_T} (X : Cx D E A own s m args) (hS : St D A ad S σ s.heap H locs) (hsh : S i = (ci + 10, 0)) (hc : vwCl[ci]? = some (Cn, T, N)) : ∃ cell : Cell, H[ad i]? = some cell ∧ cell.vm.isStatics = false ∧ s.vm.findClass Cn = some cell.cls := by
  obtain ⟨q', h1, cell, g1, g2, g3, -⟩ := hS.1.1 i _ (gC_o hsh)
  exact ⟨cell, g1, by rw [g3]; rfl, by rw [g2]; exact (X.2.2.1.1.1 ci _ hc).2.1⟩
/-- what a call through an object of its exact class asks of the tables -/
def VOK (own : String) (idx : Nat) (Cn : String) (y : MethodName) (bytes : ByteArray) (maxL : Nat) (ret : Option FieldType) (n : Nat) : Prop := GoodIn lw_all (wsV own idx Cn y (ws_ y bytes maxL ret)) ∧ y.cls = Cn ∧ y.cls ≠ "java/lang/invoke/MethodHandle" ∧ y.cls ≠ "java/lang/invoke/VarHandle" ∧ (parseMethodDescriptor y.desc).map (fun d => d.parameters.length) = some n
def SOK (own : String) (idx : Nat) (y : MethodName) (bytes : ByteArray) (maxL : Nat) (ret : Option FieldType) (n : Nat) : Prop := GoodIn lw_all (va_wsS own idx y (ws_ y bytes maxL ret)) ∧ y.cls ≠ "java/lang/invoke/MethodHandle" ∧ y.cls ≠ "java/lang/invoke/VarHandle" ∧ (parseMethodDescriptor y.desc).map (fun d => d.parameters.length) = some n
theorem y_V {ci N idx maxL n nL : Nat} {Cn : String} {T : u_T} {y : MethodName} {bytes : ByteArray} {ret : Option FieldType} {rm : Room} {As st0 st1 : List Value} {v : Option Value} {σ' : Mem} (hx : p.tables.exec = Jvm.exec) (hb : c.code = cc) (hml : c.maxLocals = nL) (X : Cx D E A own s m args) (hS : St D A ad S σ s.heap H locs) (hsh : S i = (ci + 10, 0)) (hc : vwCl[ci]? = some (Cn, T, N)) (V : VOK own idx Cn y bytes maxL ret n)
    (hM : Met l y (ws_ y bytes maxL ret) rm (va_Pc (.ref (ad i) :: As) (PreG D E A ad S σ)) (QG D A ad S v σ') 0 0 A) (hrc : rm.cells = 0) (hrs : rm.slots = 0) (hR : rm.frames + 1 ≤ R.frames ∧ 8 + (maxL + 11) + rm.locals ≤ R.locals) (hn : As.length = n) (hsz : ls.size = nL) (hst : st0 = As.reverse ++ .ref (ad i) :: rest) (hw : (rest.map fun v => v.category).sum ≤ 8) (h1 : v.toList ++ rest = st1) (hcl : cells ≤ R.cells) (hsl : slots ≤ R.slots) (hd : decode cc pc = .ok (.invokevirtual idx, 3))
    (kk : ∀ (H1 : Heap) (locs1 : List Loc), St D A ad S σ' s.heap H1 locs1 → W p l e R s m args below meth c H1 locs1 cells slots Q (F0 m (pc + 3) ls st1)) : W p l e R s m args below meth c H locs cells slots Q (F0 m pc ls st0) :=
  y_go (mc := 0) (ms := 0) (va_runV (C := Cn) (As := As) (rest := rest) ⟨hx, hb, hml, X.1, X.2.1⟩ hM (cwV n X.2.1 V.1 rfl hrc hrs V.2 hR) ⟨PreG.blind, g_recv X hS hsh hc, PreG.at X hS⟩ rfl hn hsz hst (lv_room hw) hd ⟨hcl, hsl⟩) hS.2 (h1 ▸ kk)
theorem y_S {idx maxL n nL : Nat} {y : MethodName} {bytes : ByteArray} {ret : Option FieldType} {rm : Room} {As st0 st1 : List Value} {v : Option Value} {σ' : Mem} (hx : p.tables.exec = Jvm.exec) (hb : c.code = cc) (hml : c.maxLocals = nL) (X : Cx D E A own s m args) (hS : St D A ad S σ s.heap H locs) (V : SOK own idx y bytes maxL ret n)
    (hM : Met l y (ws_ y bytes maxL ret) rm (va_Pc As (PreG D E A ad S σ)) (QG D A ad S v σ') 0 0 A) (hrc : rm.cells = 0) (hrs : rm.slots = 0) (hR : rm.frames + 1 ≤ R.frames ∧ 8 + (maxL + 11) + rm.locals ≤ R.locals) (hn : As.length = n) (hsz : ls.size = nL) (hst : st0 = As.reverse ++ rest) (hw : (rest.map fun v => v.category).sum ≤ 8) (h1 : v.toList ++ rest = st1) (hcl : cells ≤ R.cells) (hsl : slots ≤ R.slots) (hd : decode cc pc = .ok (.invokestatic idx, 3))
    (kk : ∀ (H1 : Heap) (locs1 : List Loc), St D A ad S σ' s.heap H1 locs1 → W p l e R s m args below meth c H1 locs1 cells slots Q (F0 m (pc + 3) ls st1)) : W p l e R s m args below meth c H locs cells slots Q (F0 m pc ls st0) :=
  y_go (mc := 0) (ms := 0) (va_runS (As := As) (rest := rest) ⟨hx, hb, hml, X.1, X.2.1⟩ hM (va_cwS n X.2.1 V.1 rfl hrc hrs V.2 hR) ⟨PreG.blind, PreG.at X hS⟩ rfl hn hsz hst (lv_room hw) hd ⟨hcl, hsl⟩) hS.2 (h1 ▸ kk)
end YR
/-- a contract out of a walk of the body -/
theorem y_met {l : Launch} {D : gD} {E : State → Prop} {A : Nat → Prop} {ad : Nat → Nat} {S : Nat → Nat × Nat} {σ σ' : Mem} {y : MethodName} {cc : ByteArray} {maxL : Nat} {ret : Option FieldType} {rm : Room} {av : List Value} {v : Option Value} (hy : plainName y.cls = true) (hlen : (lg_sl av).length ≤ maxL)
    (body : ∀ (p : Program) (e : Env) (s : State) (m : MethodId) (below : List Frame) (meth : Method) (c : Code) (ls : Array Slot), Cz D E A cc maxL ret y.cls p s m av.toArray meth c → St D A ad S σ s.heap s.heap [] → lv_has ls maxL (lv_args 0 av) → W p l e rm s m av.toArray below meth c s.heap [] 0 0 (MQ below (QG D A ad S v σ') av.toArray s 0 0 A) (F0 m 0 ls [])) :
    Met l y (ws_ y cc maxL ret) rm (va_Pc av (PreG D E A ad S σ)) (QG D A ad S v σ') 0 0 A := by
  refine Met.ofW (cc := cc) (maxL := maxL) (ret := ret) hy rfl ?_
  intro p e s m args below meth c s₁ B hml hv
  obtain ⟨rfl, hw, hK, hA⟩ := hv
  have hts := atoms_spec (ws := ws_ y cc maxL ret) B.pre
  have hl := lv_entry av (n := maxL) hlen
  rw [lg_entry_eq]
  exact body p e s m below meth c _ ⟨B.exec, B.bytes, B.returns, B.notSynchronized, hml, findClass_of_methodNamed B.named, fun w h => hts w (List.mem_cons_of_mem _ h), hK, hA⟩ ⟨hw, va_S.rf⟩ hl
