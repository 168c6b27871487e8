set_option maxRecDepth 100000
/-! ===== pure: count ===== -/
def IRan (σ : Mem) (FM : Nat) : Prop := ∀ f, f < FM → mI σ 20 f = mI σ 223 f ∧ (mI σ 223 f = 0 ∨ mI σ 223 f = 1)
def stC (σ : Mem) (v : Int32) (f : Nat) : Int32 := if mI σ 216 f = v then 1 else 0
section CN
variable {σ : Mem} {FM B : Nat} {dd : Nat → Fdt}
theorem bnd_if {α β : Type} {c : Prop} [Decidable c] (a b : α) (f : α → Option β) : bnd (if c then some a else some b) f = f (if c then a else b) := by split <;> rfl
theorem X_c70 (h : HF σ FM B dd) {k : Int32 → Option Int32} : ∀ r n s acc, s + r = FM → r < n → f_X1_count_L70 k σ n acc (nI s) = k (sumF (mI σ 20) s r acc)
  | 0, n + 1, s, acc, hs, _ => by
    have := h.1
    unfold f_X1_count_L70
    rw [getI_e, h.2.1, if_pos (nI_le (by omega) (by omega))]; rfl
  | r + 1, n + 1, s, acc, hs, hn => by
    have := h.1
    unfold f_X1_count_L70
    rw [getI_e, h.2.1, if_neg (nI_ge (by omega) (by omega)), rdI_n σ 20 _ (by omega) (by decide), wlet_e, nI_1]
    exact X_c70 h r n (s + 1) _ (by omega) (by omega)
theorem X_cof (h : HF σ FM B dd) {v : Int32} {k : Int32 → Option Int32} : ∀ r n s acc, s + r = FM → r < n → f_X1_countOf_L4 k σ v n acc (nI s) = k (sumF (stC σ v) s r acc)
  | 0, n + 1, s, acc, hs, _ => by
    have := h.1
    unfold f_X1_countOf_L4
    rw [getI_e, h.2.1, if_pos (nI_le (by omega) (by omega))]; rfl
  | r + 1, n + 1, s, acc, hs, hn => by
    have := h.1
    have hh := h.2.2.2 s (by omega)
    unfold f_X1_countOf_L4
    rw [getI_e, h.2.1, if_neg (nI_ge (by omega) (by omega)), rdN_n _ hh.1 (by omega) (by decide), getI_e, hh.2.2.2.2.1.1, ← hh.2.2.2.2.2.1.1, bnd_if, wlet_e, nI_1]
    exact X_cof h r n (s + 1) _ (by omega) (by omega)
theorem M_c10 (h : HF σ FM B dd) (hr : IRan σ FM) {u : Int32} {k : Int32 → Int32 → Int32 → Option Int32} : ∀ r n s a b c, s + r = FM → r < n → f_X6_count_L10 k σ u n a b c (nI s) = k (sumF (mI σ 20) s r a) (sumF (stC σ 4) s r b) (sumF (stC σ 5) s r c)
  | 0, n + 1, s, a, b, c, hs, _ => by
    have := h.1
    unfold f_X6_count_L10
    rw [getI_e, h.2.2.1, if_pos (nI_le (by omega) (by omega))]; rfl
  | r + 1, n + 1, s, a, b, c, hs, hn => by
    have := h.1
    have hh := hr s (by omega)
    unfold f_X6_count_L10
    rw [getI_e, h.2.2.1, if_neg (nI_ge (by omega) (by omega)), rdI_n σ 223 _ (by omega) (by decide), bnd_if, wlet_e, rdI_n σ 216 _ (by omega) (by decide), bnd_if, wlet_e, rdI_n σ 216 _ (by omega) (by decide), bnd_if, wlet_e, nI_1, M_c10 h hr r n (s + 1) _ _ _ (by omega) (by omega)]
    have e : (if mI σ 223 s = 0 then (0 : Int32) else 1) = mI σ 20 s := by
      rw [hh.1]
      rcases hh.2 with q | q <;> rw [q] <;> rfl
    rw [e]
    rfl
theorem op_count (h : HF σ FM B dd) (hr : IRan σ FM) (e0 : mI σ 0 0 = mI σ 200 0) (e5 : mI σ 0 8 = mI σ 200 34) (e6 : mI σ 0 26 = mI σ 200 53) (e7 : mI σ 0 38 = mI σ 200 62) (e8 : mI σ 0 7 = mI σ 200 29) (e9 : mI σ 0 21 = mI σ 200 48) (a : Int32) : Same1 (f_X1_count σ a) (f_X6_count σ a) := by
  have h1 := h.1
  unfold f_X1_count f_X6_count f_X1_countOf
  rw [show (0 : Int32) = nI 0 from rfl, M_c10 h hr FM FU 0 _ _ _ (by omega) (by unfold FU; omega), X_c70 h FM FU 0 _ (by omega) (by unfold FU; omega), X_cof h FM FU 0 _ (by omega) (by unfold FU; omega), X_cof h FM FU 0 _ (by omega) (by unfold FU; omega)]
  simp only [getI_e, bnd_e, e0, e5, e6, e7, e8, e9, h.2.1, h.2.2.1]
  refine same_self ?_
  repeat (first | exact ⟨_, rfl⟩ | split)
end CN
