set_option maxRecDepth 100000
/-! ===== pure: led ===== -/
def ILed (σ : Mem) : Prop := ∀ s, s < 8 → mI σ 12 s = mI σ 243 (6 * s + 0) ∧ mI σ 13 s = mI σ 243 (6 * s + 2) ∧ mI σ 14 s = mI σ 243 (6 * s + 3) ∧ mI σ 15 s = mI σ 243 (6 * s + 4) ∧ mI σ 16 s = mI σ 243 (6 * s + 5)
def ldC (d : Fdt) (s : Nat) : Nat → Nat → Int32 → Int32
  | _, 0, x => x
  | c, r + 1, x => ldC d s (c + 1) r (x + nI (d 4 (8 * c + s)))
def ldF (dd : Nat → Fdt) (s : Nat) : Nat → Nat → Int32 → Int32
  | _, 0, x => x
  | f, r + 1, x => ldF dd s (f + 1) r (ldC (dd f) s 0 (dd f 0 0) (x + nI (dd f 6 s)))
section LD
variable {σ : Mem} {FM B : Nat} {dd : Nat → Fdt} {k : Int32 → Option Int32} {s : Nat}
theorem X_l97 (h : HF σ FM B dd) (hs : s < 8) {f : Nat} (hf : f < FM) : ∀ r n c x, c + r = dd f 0 0 → r < n → f_X1_led_L97 k σ (nI s) (nI f) n x (nI c) = k (ldC (dd f) s c r x)
  | 0, n + 1, c, x, e, _ => by
    have o := h.1
    obtain ⟨k1, k2, k3, k4, -⟩ := h.2.2.2 f hf
    have o2 := k4.1
    unfold f_X1_led_L97
    rw [rdN_n _ k1 (by omega) (by decide), getI_e, k2.1, if_pos (nI_le (by omega) (by omega))]; rfl
  | r + 1, n + 1, c, x, e, hn => by
    have o := h.1
    obtain ⟨k1, k2, k3, k4, -⟩ := h.2.2.2 f hf
    have o2 := k4.1
    have a := k2.2.1 c (by omega)
    unfold f_X1_led_L97 f_X4_of
    rw [rdN_n _ k1 (by omega) (by decide), getI_e, k2.1, if_neg (nI_ge (by omega) (by omega)), rdN_n _ k1 (by omega) (by decide), rdN_n _ a.1 (by omega) (by decide), rdI_n σ (Ci f c + 1) _ (show s < 8 by omega) (by decide), bnd_e, wlet_e, (a.2.2.2.2 s hs).1, nI_1]
    exact X_l97 h hs hf r n (c + 1) _ (by omega) (by omega)
theorem X_l68 (h : HF σ FM B dd) (hs : s < 8) : ∀ r n f x, f + r = FM → r < n → f_X1_led_L68 k σ (nI s) n x (nI f) = k (ldF dd s f r x)
  | 0, n + 1, f, x, e, _ => by
    have o := h.1
    unfold f_X1_led_L68
    rw [getI_e, h.2.1, if_pos (nI_le (by omega) (by omega))]; rfl
  | r + 1, n + 1, f, x, e, hn => by
    have o := h.1
    obtain ⟨k1, k2, k3, k4, -⟩ := h.2.2.2 f (by omega)
    have o2 := k4.1
    unfold f_X1_led_L68 f_X4_of
    rw [getI_e, h.2.1, if_neg (nI_ge (by omega) (by omega)), rdN_n _ k1 (by omega) (by decide), rdI_n σ (Fi f + 2 + 1) _ (show s < 8 by omega) (by decide), bnd_e, wlet_e, k2.2.2.1 s hs, show (0 : Int32) = nI 0 from rfl, X_l97 h hs (by omega) (dd f 0 0) FU 0 _ (by omega) (by unfold FU; omega), nI_1]
    exact X_l68 h hs r n (f + 1) _ (by omega) (by omega)
theorem M_l70 (h : HF σ FM B dd) (hs : s < 8) {f : Nat} (hf : f < FM) : ∀ r n c x, c + r = dd f 0 0 → r < n → f_X6_led_L70 k σ (nI s) (nI f) n x (nI c) = k (ldC (dd f) s c r x)
  | 0, n + 1, c, x, e, _ => by
    have o := h.1
    obtain ⟨k1, k2, k3, k4, -⟩ := h.2.2.2 f hf
    have o2 := k4.1
    unfold f_X6_led_L70
    rw [rdI_n σ 206 _ (by omega) (by decide), k3.1, if_pos (nI_le (by omega) (by omega))]; rfl
  | r + 1, n + 1, c, x, e, hn => by
    have o := h.1
    obtain ⟨k1, k2, k3, k4, -⟩ := h.2.2.2 f hf
    have o2 := k4.1
    unfold f_X6_led_L70
    rw [rdI_n σ 206 _ (by omega) (by decide), k3.1, if_neg (nI_ge (by omega) (by omega)), ix10, ix8, rdI_n σ 210 _ (show 8 * (10 * f + c) + s < 720 by omega) (by decide), wlet_e, (k3.2.1 c (by omega)).2.2 s hs, nI_1]
    exact M_l70 h hs hf r n (c + 1) _ (by omega) (by omega)
theorem M_l43 (h : HF σ FM B dd) (hs : s < 8) : ∀ r n f x, f + r = FM → r < n → f_X6_led_L43 k σ (nI s) n x (nI f) = k (ldF dd s f r x)
  | 0, n + 1, f, x, e, _ => by
    have o := h.1
    unfold f_X6_led_L43
    rw [getI_e, h.2.2.1, if_pos (nI_le (by omega) (by omega))]; rfl
  | r + 1, n + 1, f, x, e, hn => by
    have o := h.1
    obtain ⟨k1, k2, k3, k4, -⟩ := h.2.2.2 f (by omega)
    have o2 := k4.1
    unfold f_X6_led_L43
    rw [getI_e, h.2.2.1, if_neg (nI_ge (by omega) (by omega)), ix8, rdI_n σ 212 _ (show 8 * f + s < 72 by omega) (by decide), wlet_e, k3.2.2.1 s hs, show (0 : Int32) = nI 0 from rfl, M_l70 h hs (by omega) (dd f 0 0) FU 0 _ (by omega) (by unfold FU; omega), nI_1]
    exact M_l43 h hs r n (f + 1) _ (by omega) (by omega)
theorem op_led (h : HF σ FM B dd) (hl : ILed σ) (a b : Int32) : Same1 (f_X1_led σ a b) (f_X6_led σ a b) := by
  have o := h.1
  unfold f_X1_led f_X6_led
  rw [f1_size, f6_in, bnd_e, bnd_e]
  cases r1 : rng a 0 7
  · exact ⟨_, rfl, rfl⟩
  obtain ⟨s, hs, rfl⟩ := rng_n (n := 7) (by decide) r1
  have hs8 : s < 8 := by omega
  rw [if_neg (show ¬ (if true = true then (1 : Int32) else 0) = 0 by decide), if_neg (show ¬ (if true = true then (1 : Int32) else 0) = 0 by decide), f1_inL σ b 0 5 (lo' := 0) (hi' := 5) rfl rfl, f6_in, bnd_e, bnd_e]
  cases r2 : rng b 0 5
  · exact ⟨_, rfl, rfl⟩
  obtain ⟨w, hw, rfl⟩ := rng_n (n := 5) (by decide) r2
  rw [if_neg (show ¬ (if true = true then (1 : Int32) else 0) = 0 by decide), if_neg (show ¬ (if true = true then (1 : Int32) else 0) = 0 by decide), ix6, rdI_n σ 243 _ (show 6 * s + w < 48 by omega) (by decide), rdI_n σ 12 _ hs8 (by decide), rdI_n σ 13 _ hs8 (by decide), rdI_n σ 14 _ hs8 (by decide), rdI_n σ 15 _ hs8 (by decide), rdI_n σ 16 _ hs8 (by decide)]
  obtain ⟨l0, l2, l3, l4, l5⟩ := hl s hs8
  rcases (show w = 0 ∨ w = 1 ∨ w = 2 ∨ w = 3 ∨ w = 4 ∨ w = 5 by omega) with rfl | rfl | rfl | rfl | rfl | rfl
  · exact ⟨_, rfl, by rw [l0]; rfl⟩
  · have e1 := X_l68 (k := fun x => some x) h hs8 FM FU 0 0 (by omega) (by unfold FU; omega)
    have e2 := M_l43 (k := fun x => some x) h hs8 FM FU 0 0 (by omega) (by unfold FU; omega)
    exact ⟨_, e1, e2⟩
  · exact ⟨_, rfl, by rw [l2]; rfl⟩
  · exact ⟨_, rfl, by rw [l3]; rfl⟩
  · exact ⟨_, rfl, by rw [l4]; rfl⟩
  · exact ⟨_, rfl, by rw [l5]; rfl⟩
end LD
