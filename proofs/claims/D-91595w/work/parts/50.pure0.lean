set_option maxRecDepth 100000
/-! ===== pure: words for runs that go through ===== -/
theorem inb_n {k n : Nat} (h : k < n) (hn : n < 2 ^ 31) : inb (nI k) n = true := by
  have := nI_toInt (n := k) (by omega)
  simp only [inb, Bool.and_eq_true, decide_eq_true_eq]
  omega
section R0
variable {β : Type}
theorem rdI_n (σ : Mem) (i : Nat) {k n : Nat} (f : Int32 → Option β) (h : k < n) (hn : n < 2 ^ 31) : rdI σ i n (nI k) f = f (mI σ i k) := by
  unfold rdI; rw [inb_n h hn, nI_clamp (by omega)]; rfl
theorem rdL_n (σ : Mem) (i : Nat) {k n : Nat} (f : Int64 → Option β) (h : k < n) (hn : n < 2 ^ 31) : rdL σ i n (nI k) f = f (mL σ i k) := by
  unfold rdL; rw [inb_n h hn, nI_clamp (by omega)]; rfl
theorem rdR_n (σ : Mem) (i : Nat) {k n : Nat} (f : Option Nat → Option β) (h : k < n) (hn : n < 2 ^ 31) : rdR σ i n (nI k) f = f (mR σ i k) := by
  unfold rdR; rw [inb_n h hn, nI_clamp (by omega)]; rfl
theorem rdN_n {σ : Mem} {i k n t : Nat} (f : Nat → Option β) (ht : mR σ i k = some t) (h : k < n) (hn : n < 2 ^ 31) : rdN σ i n (nI k) f = f t := by
  unfold rdN; rw [inb_n h hn, nI_clamp (by omega), ht]; rfl
theorem wrI_n (σ : Mem) (i : Nat) {k n : Nat} (v : Int32) (f : Mem → Option β) (h : k < n) (hn : n < 2 ^ 31) : wrI σ i n (nI k) v f = f (setI σ i k v) := by
  unfold wrI; rw [inb_n h hn, nI_clamp (by omega)]; rfl
theorem wrZ_n (σ : Mem) (i : Nat) {k n : Nat} {v : Int32} (f : Mem → Option β) (hv : isz v = true) (h : k < n) (hn : n < 2 ^ 31) : wrZ σ i n (nI k) v f = f (setI σ i k v) := by
  unfold wrZ; rw [inb_n h hn, nI_clamp (by omega), hv]; rfl
theorem wrB_n (σ : Mem) (i : Nat) {k n : Nat} (v : Int32) (f : Mem → Option β) (h : k < n) (hn : n < 2 ^ 31) : wrB σ i n (nI k) v f = f (setI σ i k v.toInt8.toInt32) := by
  unfold wrB; rw [inb_n h hn, nI_clamp (by omega)]; rfl
theorem wrL_n (σ : Mem) (i : Nat) {k n : Nat} (v : Int64) (f : Mem → Option β) (h : k < n) (hn : n < 2 ^ 31) : wrL σ i n (nI k) v f = f (setL σ i k v) := by
  unfold wrL; rw [inb_n h hn, nI_clamp (by omega)]; rfl
theorem wrR_n (σ : Mem) (i : Nat) {k n : Nat} (v : Option Nat) (f : Mem → Option β) (h : k < n) (hn : n < 2 ^ 31) : wrR σ i n (nI k) v f = f (setR σ i k v) := by
  unfold wrR; rw [inb_n h hn, nI_clamp (by omega)]; rfl
theorem getI_e (σ : Mem) (i k : Nat) (f : Int32 → Option β) : getI σ i k f = f (mI σ i k) := rfl
theorem getR_e (σ : Mem) (i k : Nat) (f : Option Nat → Option β) : getR σ i k f = f (mR σ i k) := rfl
theorem getN_e {σ : Mem} {i k t : Nat} (f : Nat → Option β) (h : mR σ i k = some t) : getN σ i k f = f t := by unfold getN; rw [h]; rfl
theorem putI_e (σ : Mem) (i k : Nat) (v : Int32) (f : Mem → Option β) : putI σ i k v f = f (setI σ i k v) := rfl
theorem putR_e (σ : Mem) (i k : Nat) (v : Option Nat) (f : Mem → Option β) : putR σ i k v f = f (setR σ i k v) := rfl
theorem putZ_e (σ : Mem) (i k : Nat) {v : Int32} (f : Mem → Option β) (h : isz v = true) : putZ σ i k v f = f (setI σ i k v) := by unfold putZ; rw [h]; rfl
theorem divI_e {y : Int32} (f : Option β) (h : ¬ y = 0) : divI y f = f := by unfold divI nz; rw [decide_eq_false h]; rfl
theorem divL_e {y : Int64} (f : Option β) (h : ¬ y = 0) : divL y f = f := by unfold divL nzl; rw [decide_eq_false h]; rfl
theorem bnd_e {α : Type} (a : α) (f : α → Option β) : bnd (some a) f = f a := rfl
theorem bnd2_e {α γ : Type} (a : α) (b : γ) (f : α → γ → Option β) : bnd2 (some (a, b)) f = f a b := rfl
theorem bndE_e {ρ γ : Type} (σ : Mem) (τ : Shp) (x : ρ) (f : Mem → Shp → ρ → Option (Rs γ)) : bndE (some (.inl (σ, τ, x))) f = f σ τ x := rfl
theorem bndL_e {ρ : Type} (σ : Mem) (τ : Shp) (x : ρ) (f : Mem → Shp → ρ → Option β) : bndL (some (.inl (σ, τ, x))) f = f σ τ x := rfl
theorem wlet_e {α : Type} (a : α) (f : α → Option β) : wlet a f = f a := rfl
theorem retZ_0 : retZ 0 = some 0 := rfl
theorem retZ_1 : retZ 1 = some 1 := rfl
theorem retZm_0 (σ : Mem) : retZm σ 0 = some (σ, 0) := rfl
theorem retZm_1 (σ : Mem) : retZm σ 1 = some (σ, 1) := rfl
end R0
/-! indices -/
theorem ix10 (F C : Nat) : (10 : Int32) * nI F + nI C = nI (10 * F + C) := by rw [show (10 : Int32) = nI 10 from rfl, pk_mul, nI_add]
theorem ix8 (F C : Nat) : (8 : Int32) * nI F + nI C = nI (8 * F + C) := by rw [show (8 : Int32) = nI 8 from rfl, pk_mul, nI_add]
theorem ix6 (F C : Nat) : (6 : Int32) * nI F + nI C = nI (6 * F + C) := by rw [show (6 : Int32) = nI 6 from rfl, pk_mul, nI_add]
theorem ix3 (F : Nat) : (3 : Int32) * nI F = nI (3 * F) := by rw [show (3 : Int32) = nI 3 from rfl, pk_mul]
theorem ix81 (F C : Nat) : (81 : Int32) * nI F + nI C = nI (81 * F + C) := by rw [show (81 : Int32) = nI 81 from rfl, pk_mul, nI_add]
/-! sums from the left -/
def sumF (g : Nat → Int32) : Nat → Nat → Int32 → Int32
  | _, 0, acc => acc
  | s, r + 1, acc => sumF g (s + 1) r (acc + g s)
def s8 (g : Nat → Int32) : Int32 := sumF g 0 8 0
theorem sumF_congr {g h : Nat → Int32} : ∀ (r s : Nat) (acc : Int32), (∀ k, s ≤ k → k < s + r → g k = h k) → sumF g s r acc = sumF h s r acc
  | 0, _, _, _ => rfl
  | r + 1, s, acc, e => by
    show sumF g (s + 1) r (acc + g s) = sumF h (s + 1) r (acc + h s)
    rw [e s (Nat.le_refl _) (by omega)]
    exact sumF_congr r (s + 1) _ (fun k h1 h2 => e k (by omega) (by omega))
theorem s8_congr {g h : Nat → Int32} (e : ∀ k, k < 8 → g k = h k) : s8 g = s8 h := sumF_congr 8 0 0 (fun k _ h2 => e k (by omega))
/-! stores that agree -/
def Sm (X : Nat → Nat → Prop) (σ σ' : Mem) : Prop := ∀ i k, ¬ X i k → mI σ' i k = mI σ i k ∧ mL σ' i k = mL σ i k ∧ mR σ' i k = mR σ i k
theorem Sm.rf {X : Nat → Nat → Prop} {σ : Mem} : Sm X σ σ := fun _ _ _ => ⟨rfl, rfl, rfl⟩
theorem Sm.tr {X : Nat → Nat → Prop} {σ σ' σ'' : Mem} (h : Sm X σ σ') (g : Sm X σ' σ'') : Sm X σ σ'' := fun i k hi => ⟨(g i k hi).1.trans (h i k hi).1, (g i k hi).2.1.trans (h i k hi).2.1, (g i k hi).2.2.trans (h i k hi).2.2⟩
theorem Sm.wk {X Y : Nat → Nat → Prop} {σ σ' : Mem} (h : Sm X σ σ') (hXY : ∀ i k, X i k → Y i k) : Sm Y σ σ' := fun i k hi => h i k (fun q => hi (hXY i k q))
theorem Sm.I {X : Nat → Nat → Prop} {σ σ' : Mem} (h : Sm X σ σ') {i k : Nat} (hi : ¬ X i k) : mI σ' i k = mI σ i k := (h i k hi).1
theorem Sm.L {X : Nat → Nat → Prop} {σ σ' : Mem} (h : Sm X σ σ') {i k : Nat} (hi : ¬ X i k) : mL σ' i k = mL σ i k := (h i k hi).2.1
theorem Sm.R {X : Nat → Nat → Prop} {σ σ' : Mem} (h : Sm X σ σ') {i k : Nat} (hi : ¬ X i k) : mR σ' i k = mR σ i k := (h i k hi).2.2
theorem mI_s (σ : Mem) (i k : Nat) (v : Int32) : mI (setI σ i k v) i k = v := by rw [mI_setI, if_pos ⟨rfl, rfl⟩]
theorem mI_o (σ : Mem) {i k a b : Nat} (v : Int32) (h : a ≠ i ∨ b ≠ k) : mI (setI σ i k v) a b = mI σ a b := by
  rw [mI_setI, if_neg]; rintro ⟨h1, h2⟩; rcases h with h | h
  · exact h h1
  · exact h h2
theorem mR_s (σ : Mem) (i k : Nat) (v : Option Nat) : mR (setR σ i k v) i k = v := by rw [mR_setR, if_pos ⟨rfl, rfl⟩]
theorem mR_o (σ : Mem) {i k a b : Nat} (v : Option Nat) (h : a ≠ i ∨ b ≠ k) : mR (setR σ i k v) a b = mR σ a b := by
  rw [mR_setR, if_neg]; rintro ⟨h1, h2⟩; rcases h with h | h
  · exact h h1
  · exact h h2
theorem mL_s (σ : Mem) (i k : Nat) (v : Int64) : mL (setL σ i k v) i k = v := by rw [mL_setL, if_pos ⟨rfl, rfl⟩]
theorem mL_o (σ : Mem) {i k a b : Nat} (v : Int64) (h : a ≠ i ∨ b ≠ k) : mL (setL σ i k v) a b = mL σ a b := by
  rw [mL_setL, if_neg]; rintro ⟨h1, h2⟩; rcases h with h | h
  · exact h h1
  · exact h h2
theorem Sm.sI {X : Nat → Nat → Prop} {σ : Mem} {i k : Nat} (v : Int32) (hi : X i k) : Sm X σ (setI σ i k v) := fun a b ha => ⟨mI_o σ v (by
  by_cases e : a = i
  · exact Or.inr (fun e2 => ha (by rw [e, e2]; exact hi))
  · exact Or.inl e), rfl, rfl⟩
theorem Sm.sL {X : Nat → Nat → Prop} {σ : Mem} {i k : Nat} (v : Int64) (hi : X i k) : Sm X σ (setL σ i k v) := fun a b ha => ⟨rfl, mL_o σ v (by
  by_cases e : a = i
  · exact Or.inr (fun e2 => ha (by rw [e, e2]; exact hi))
  · exact Or.inl e), rfl⟩
theorem Sm.sR {X : Nat → Nat → Prop} {σ : Mem} {i k : Nat} (v : Option Nat) (hi : X i k) : Sm X σ (setR σ i k v) := fun a b ha => ⟨rfl, rfl, mR_o σ v (by
  by_cases e : a = i
  · exact Or.inr (fun e2 => ha (by rw [e, e2]; exact hi))
  · exact Or.inl e)⟩
/-! ranges -/
def rng (x lo hi : Int32) : Bool := decide (lo ≤ x) && decide (x ≤ hi)
theorem f6_in (σ : Mem) (x lo hi : Int32) : f_X6_in σ x lo hi = some (if rng x lo hi then 1 else 0) := by
  unfold f_X6_in rng
  by_cases h1 : x < lo
  · have : ¬ lo ≤ x := Int32.not_le.mpr h1
    simp [h1, this, retZ_0]
  · have h1' : lo ≤ x := Int32.not_lt.mp h1
    by_cases h2 : hi < x
    · have : ¬ x ≤ hi := Int32.not_le.mpr h2
      simp [h1, h1', h2, this, retZ_0]
    · have : x ≤ hi := Int32.not_lt.mp h2
      simp [h1, h1', h2, this, retZ_1]
theorem f1_in (σ : Mem) (x lo hi : Int32) : f_X1_isIn σ x.toInt64 lo.toInt64 hi.toInt64 = some (if rng x lo hi then 1 else 0) := by
  have e : ∀ a b : Int32, a.toInt64 < b.toInt64 ↔ a < b := fun a b => by rw [Int64.lt_iff_toInt_lt, Int32.lt_iff_toInt_lt, Int32.toInt_toInt64, Int32.toInt_toInt64]
  unfold f_X1_isIn rng
  by_cases h1 : x < lo
  · have : ¬ lo ≤ x := Int32.not_le.mpr h1
    rw [if_pos ((e x lo).mpr h1)]
    simp [this, retZ_0]
  · have h1' : lo ≤ x := Int32.not_lt.mp h1
    rw [if_neg (fun q => h1 ((e x lo).mp q))]
    by_cases h2 : hi < x
    · have : ¬ x ≤ hi := Int32.not_le.mpr h2
      rw [if_pos ((e hi x).mpr h2)]
      simp [h1', this, retZ_0]
    · have : x ≤ hi := Int32.not_lt.mp h2
      rw [if_neg (fun q => h2 ((e hi x).mp q))]
      simp [h1', this, retZ_1]
theorem rng_n {x : Int32} {n : Nat} (hn : n < 2 ^ 31) (h : rng x 0 (nI n) = true) : ∃ k, k ≤ n ∧ x = nI k := by
  simp only [rng, Bool.and_eq_true, decide_eq_true_eq] at h
  obtain ⟨k, hk, e⟩ := nI_of2 (nI_toInt hn) (Int32.not_lt.mpr h.1) h.2
  exact ⟨k, hk, e⟩
theorem rng_lo {x : Int32} {a n : Nat} (hn : n < 2 ^ 31) (ha : a < 2 ^ 31) (h : rng x (nI a) (nI n) = true) : ∃ k, a ≤ k ∧ k ≤ n ∧ x = nI k := by
  simp only [rng, Bool.and_eq_true, decide_eq_true_eq] at h
  have h0 : ¬ x < 0 := by
    intro q
    have h1 := Int32.le_iff_toInt_le.mp h.1
    have h2 := Int32.lt_iff_toInt_lt.mp q
    rw [nI_toInt ha] at h1
    simp at h2
    omega
  obtain ⟨k, hk, e⟩ := nI_of2 (nI_toInt hn) h0 h.2
  subst e
  exact ⟨k, (nI_leI ha (by omega)).mp h.1, hk, rfl⟩
/-- two tests one after another that fail alike -/
theorem b01 {b : Bool} : ((if b then (1 : Int32) else 0) = 0) = (b = false) := by cases b <;> simp
