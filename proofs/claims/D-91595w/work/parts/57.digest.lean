set_option maxRecDepth 100000
/-! ===== pure: digest ===== -/
def dg1 (g : Nat → Nat) : Nat → Nat → Int32 → Int32
  | _, 0, x => x
  | s, r + 1, x => dg1 g (s + 1) r ((31 : Int32) * x + nI (g s))
def dg2 (g h : Nat → Nat) : Nat → Nat → Int32 → Int32
  | _, 0, x => x
  | s, r + 1, x => dg2 g h (s + 1) r ((31 : Int32) * ((31 : Int32) * x + nI (g s)) + nI (h s))
def dgC (d : Fdt) : Nat → Nat → Int32 → Int32
  | _, 0, x => x
  | c, r + 1, x => dgC d (c + 1) r (dg2 (fun s => d 4 (8 * c + s)) (fun s => d 5 (8 * c + s)) 0 8 ((31 : Int32) * x + nI (d 1 c)))
def dgF (dd : Nat → Fdt) : Nat → Nat → Int32 → Int32
  | _, 0, x => x
  | f, r + 1, x => dgF dd (f + 1) r (dgC (dd f) 0 (dd f 0 0) (dg1 (dd f 6) 0 8 ((31 : Int32) * ((31 : Int32) * ((31 : Int32) * x + nI (dd f 7 0)) + nI (dd f 7 1)) + nI (dd f 7 2))))
section DG
variable {σ : Mem} {FM B : Nat} {dd : Nat → Fdt} {d : Fdt} {i f : Nat} {ci : Nat → Nat} {k : Int32 → Option Int32} {u : Int32}
theorem X_d59 (h : XFil σ i ci d) : ∀ r n s x, s + r = 8 → r < n → f_X1_digest_L59 k σ u i n x (nI s) = k (dg1 (d 6) s r x)
  | 0, n + 1, s, x, hs, _ => by
    have : s = 8 := by omega
    subst this
    unfold f_X1_digest_L59
    rw [if_pos (by decide : (8 : Int32) ≤ nI 8)]; rfl
  | r + 1, n + 1, s, x, hs, hn => by
    unfold f_X1_digest_L59 f_X4_of
    rw [if_neg (ge8 (s := s) (by omega)), rdI_n σ (i + 2 + 1) _ (show s < 8 by omega) (by decide), bnd_e, wlet_e, h.2.2.1 s (by omega), nI_1]
    exact X_d59 h r n (s + 1) _ (by omega) (by omega)
theorem X_d118 (h : XFil σ i ci d) (ok : OKf d B) {c : Nat} (hc : c < d 0 0) : ∀ r n s x, s + r = 8 → r < n → f_X1_digest_L118 k σ u i (nI c) n x (nI s) = k (dg2 (fun s => d 4 (8 * c + s)) (fun s => d 5 (8 * c + s)) s r x)
  | 0, n + 1, s, x, hs, _ => by
    have : s = 8 := by omega
    subst this
    unfold f_X1_digest_L118
    rw [if_pos (by decide : (8 : Int32) ≤ nI 8)]; rfl
  | r + 1, n + 1, s, x, hs, hn => by
    have o := ok.1
    have a := h.2.1 c hc
    unfold f_X1_digest_L118
    rw [if_neg (ge8 (s := s) (by omega)), rdN_n _ a.1 (by omega) (by decide), rdI_n σ (ci c + 1) _ (show s < 8 by omega) (by decide), wlet_e, rdN_n _ a.1 (by omega) (by decide), rdI_n σ (ci c + 2) _ (show s < 8 by omega) (by decide), wlet_e, (a.2.2.2.2 s (by omega)).1, (a.2.2.2.2 s (by omega)).2, nI_1]
    exact X_d118 h ok hc r n (s + 1) _ (by omega) (by omega)
theorem X_d90 (h : XFil σ i ci d) (ok : OKf d B) : ∀ r n c x, c + r = d 0 0 → r < n → f_X1_digest_L90 k σ u i n x (nI c) = k (dgC d c r x)
  | 0, n + 1, c, x, hs, _ => by
    have o := ok.1
    unfold f_X1_digest_L90
    rw [getI_e, h.1, if_pos (nI_le (by omega) (by omega))]; rfl
  | r + 1, n + 1, c, x, hs, hn => by
    have o := ok.1
    have a := h.2.1 c (by omega)
    unfold f_X1_digest_L90
    rw [getI_e, h.1, if_neg (nI_ge (by omega) (by omega)), rdN_n _ a.1 (by omega) (by decide), getI_e, a.2.1, wlet_e, show (0 : Int32) = nI 0 from rfl, X_d118 h ok (by omega) 8 FU 0 _ (by omega) (by decide), nI_1]
    exact X_d90 h ok r n (c + 1) _ (by omega) (by omega)
theorem X_d11 (h : HF σ FM B dd) : ∀ r n f x, f + r = FM → r < n → f_X1_digest_L11 k σ n x (nI f) = k (dgF dd f r x)
  | 0, n + 1, f, x, hs, _ => by
    have o := h.1
    unfold f_X1_digest_L11
    rw [getI_e, h.2.1, if_pos (nI_le (by omega) (by omega))]; rfl
  | r + 1, n + 1, f, x, hs, hn => by
    have o := h.1
    obtain ⟨k1, k2, k3, k4, k5, k6, -⟩ := h.2.2.2 f (by omega)
    have o2 := k4.1
    unfold f_X1_digest_L11
    rw [getI_e, h.2.1, if_neg (nI_ge (by omega) (by omega)), rdN_n _ k1 (by omega) (by decide), getI_e, wlet_e, getI_e, wlet_e, getI_e, wlet_e, k5.1, k5.2.1, k5.2.2.1, show (0 : Int32) = nI 0 from rfl, X_d59 k2 8 FU 0 _ (by omega) (by decide), X_d90 k2 k4 (dd f 0 0) FU 0 _ (by omega) (by unfold FU; omega), nI_1]
    exact X_d11 h r n (f + 1) _ (by omega) (by omega)
theorem M_d57 (hf : f < 9) (h : MFil σ f d) : ∀ r n s x, s + r = 8 → r < n → f_X6_digest_L57 k σ (nI f) n x (nI s) = k (dg1 (d 6) s r x)
  | 0, n + 1, s, x, hs, _ => by
    have : s = 8 := by omega
    subst this
    unfold f_X6_digest_L57
    rw [if_pos (by decide : (8 : Int32) ≤ nI 8)]; rfl
  | r + 1, n + 1, s, x, hs, hn => by
    unfold f_X6_digest_L57
    rw [if_neg (ge8 (s := s) (by omega)), ix8, rdI_n σ 212 _ (show 8 * f + s < 72 by omega) (by decide), wlet_e, h.2.2.1 s (by omega), nI_1]
    exact M_d57 hf h r n (s + 1) _ (by omega) (by omega)
theorem M_d118 (hf : f < 9) (h : MFil σ f d) (hx : MEx σ f d) (ok : OKf d B) {c : Nat} (hc : c < d 0 0) : ∀ r n s x, s + r = 8 → r < n → f_X6_digest_L118 k σ (nI f) (nI c) n x (nI s) = k (dg2 (fun s => d 4 (8 * c + s)) (fun s => d 5 (8 * c + s)) s r x)
  | 0, n + 1, s, x, hs, _ => by
    have : s = 8 := by omega
    subst this
    unfold f_X6_digest_L118
    rw [if_pos (by decide : (8 : Int32) ≤ nI 8)]; rfl
  | r + 1, n + 1, s, x, hs, hn => by
    have o := ok.1
    unfold f_X6_digest_L118
    rw [if_neg (ge8 (s := s) (by omega)), wlet_e, ix10, ix8, rdI_n σ 210 _ (show 8 * (10 * f + c) + s < 720 by omega) (by decide), wlet_e, rdI_n σ 211 _ (show 8 * (10 * f + c) + s < 720 by omega) (by decide), wlet_e, (h.2.1 c hc).2.2 s (by omega), (hx.1 c hc).2 s (by omega), nI_1]
    exact M_d118 hf h hx ok hc r n (s + 1) _ (by omega) (by omega)
theorem M_d88 (hf : f < 9) (h : MFil σ f d) (hx : MEx σ f d) (ok : OKf d B) : ∀ r n c x, c + r = d 0 0 → r < n → f_X6_digest_L88 k σ (nI f) n x (nI c) = k (dgC d c r x)
  | 0, n + 1, c, x, hs, _ => by
    have o := ok.1
    unfold f_X6_digest_L88
    rw [rdI_n σ 206 _ hf (by decide), h.1, if_pos (nI_le (by omega) (by omega))]; rfl
  | r + 1, n + 1, c, x, hs, hn => by
    have o := ok.1
    unfold f_X6_digest_L88
    rw [rdI_n σ 206 _ hf (by decide), h.1, if_neg (nI_ge (by omega) (by omega)), ix10, rdI_n σ 207 _ (show 10 * f + c < 90 by omega) (by decide), (h.2.1 c (by omega)).1, wlet_e, show (0 : Int32) = nI 0 from rfl, M_d118 hf h hx ok (by omega) 8 FU 0 _ (by omega) (by decide), nI_1]
    exact M_d88 hf h hx ok r n (c + 1) _ (by omega) (by omega)
theorem M_d11 (h : HF σ FM B dd) : ∀ r n f x, f + r = FM → r < n → f_X6_digest_L11 k σ n x (nI f) = k (dgF dd f r x)
  | 0, n + 1, f, x, hs, _ => by
    have o := h.1
    unfold f_X6_digest_L11
    rw [getI_e, h.2.2.1, if_pos (nI_le (by omega) (by omega))]; rfl
  | r + 1, n + 1, f, x, hs, hn => by
    have o := h.1
    obtain ⟨k1, k2, k3, k4, k5, k6, k7, -⟩ := h.2.2.2 f (by omega)
    have o2 := k4.1
    unfold f_X6_digest_L11
    rw [getI_e, h.2.2.1, if_neg (nI_ge (by omega) (by omega)), rdI_n σ 216 _ (by omega) (by decide), wlet_e, rdI_n σ 217 _ (by omega) (by decide), wlet_e, rdI_n σ 218 _ (by omega) (by decide), wlet_e, k6.1, k6.2.1, k6.2.2.1, show (0 : Int32) = nI 0 from rfl, M_d57 (by omega) k3 8 FU 0 _ (by omega) (by decide), M_d88 (by omega) k3 k7 k4 (dd f 0 0) FU 0 _ (by omega) (by unfold FU; omega), nI_1]
    exact M_d11 h r n (f + 1) _ (by omega) (by omega)
theorem op_digest (h : HF σ FM B dd) (e0 : mI σ 0 0 = mI σ 200 0) : Same1 (f_X1_digest σ) (f_X6_digest σ) := by
  have o := h.1
  unfold f_X1_digest f_X6_digest
  rw [getI_e, getI_e, wlet_e, wlet_e, e0, show (0 : Int32) = nI 0 from rfl, X_d11 h FM FU 0 _ (by omega) (by unfold FU; omega), M_d11 h FM FU 0 _ (by omega) (by unfold FU; omega)]
  exact ⟨_, rfl, rfl⟩
end DG
