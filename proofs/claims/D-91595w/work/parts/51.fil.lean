set_option maxRecDepth 100000
/-! ===== pure: cells and filters by their numbers ===== -/
def smN (g : Nat → Nat) : Nat → Nat
  | 0 => 0
  | n + 1 => smN g n + g n
theorem smN_congr {g h : Nat → Nat} : ∀ n, (∀ k, k < n → g k = h k) → smN g n = smN h n
  | 0, _ => rfl
  | n + 1, e => by rw [smN, smN, smN_congr n (fun k hk => e k (by omega)), e n (by omega)]
theorem smN_le {g : Nat → Nat} {B : Nat} : ∀ n, (∀ k, k < n → g k ≤ B) → smN g n ≤ n * B
  | 0, _ => by simp [smN]
  | n + 1, e => by
    have h1 := smN_le n (fun k hk => e k (by omega))
    have h2 := e n (by omega)
    rw [smN, Nat.succ_mul]; omega
theorem smN_ge {g : Nat → Nat} : ∀ n k, k < n → g k ≤ smN g n
  | 0, _, h => by omega
  | n + 1, k, h => by
    rw [smN]
    by_cases hk : k = n
    · subst hk; omega
    · have := smN_ge n k (by omega) (g := g); omega
theorem ge8 {s : Nat} (h : s < 8) : ¬ (8 : Int32) ≤ nI s := nI_ge (b := 8) h (by decide)
def wdN (p t n : Nat) : Nat := p - n / t
def rsN (w : Nat) : Nat := max 1 (10000 / w / w)
theorem imax0 {a b : Nat} (ha : a < 2 ^ 30) (hb : b < 2 ^ 30) : imax 0 (nI a - nI b) = nI (a - b) := by
  unfold imax
  by_cases h : b ≤ a
  · rw [pk_sub h]
    by_cases h0 : a - b = 0
    · rw [h0, nI_0]; simp
    · rw [if_pos]
      have := nI_lt (a := 0) (b := a - b) (by omega) (by omega)
      rw [nI_0] at this; exact this
  · have h1 := pk_sneg (a := a) hb (by omega)
    rw [if_neg (Int32.not_lt.mpr (Int32.le_of_lt h1)), show a - b = 0 by omega, nI_0]
theorem X_all_L {k : Int32 → Option Int32} {σ : Mem} {u : Nat} {g : Nat → Nat} (hg : ∀ j, j < 8 → mI σ (u + 1) j = nI (g j)) : ∀ r n s, s + r = 8 → r < n → f_X19_all_L4 k σ u n (nI (smN g s)) (nI s) = k (nI (smN g 8))
  | 0, n + 1, s, hs, _ => by
    have : s = 8 := by omega
    subst this
    unfold f_X19_all_L4
    rw [if_pos (by decide : (8 : Int32) ≤ nI 8)]
  | r + 1, n + 1, s, hs, hn => by
    unfold f_X19_all_L4
    rw [if_neg (ge8 (s := s) (by omega))]
    unfold f_X4_of
    rw [rdI_n σ (u + 1) _ (show s < 8 by omega) (by decide), bnd_e, wlet_e, hg s (by omega), nI_add, nI_1]
    exact X_all_L hg r n (s + 1) (by omega) (by omega)
theorem X_all {σ : Mem} {u : Nat} {g : Nat → Nat} (hg : ∀ j, j < 8 → mI σ (u + 1) j = nI (g j)) : f_X19_all σ u = some (nI (smN g 8)) := X_all_L hg 8 FU 0 (by decide) (by decide)
theorem M_held_L {k : Int32 → Option Int32} {σ : Mem} {F C : Nat} {g : Nat → Nat} (hF : F < 9) (hC : C < 10) (hg : ∀ j, j < 8 → mI σ 210 (8 * (10 * F + C) + j) = nI (g j)) : ∀ r n s, s + r = 8 → r < n → f_X6_heldIn_L5 k σ (nI F) (nI C) n (nI (smN g s)) (nI s) = k (nI (smN g 8))
  | 0, n + 1, s, hs, _ => by
    have : s = 8 := by omega
    subst this
    unfold f_X6_heldIn_L5
    rw [if_pos (by decide : (8 : Int32) ≤ nI 8)]
  | r + 1, n + 1, s, hs, hn => by
    unfold f_X6_heldIn_L5
    rw [if_neg (ge8 (s := s) (by omega)), ix10, ix8, rdI_n σ 210 _ (show 8 * (10 * F + C) + s < 720 by omega) (by decide), wlet_e, hg s (by omega), nI_add, nI_1]
    exact M_held_L hF hC hg r n (s + 1) (by omega) (by omega)
theorem M_held {σ : Mem} {F C : Nat} {g : Nat → Nat} (hF : F < 9) (hC : C < 10) (hg : ∀ j, j < 8 → mI σ 210 (8 * (10 * F + C) + j) = nI (g j)) : f_X6_heldIn σ (nI F) (nI C) = some (nI (smN g 8)) := M_held_L hF hC hg 8 FU 0 (by decide) (by decide)
theorem M_cake_L {k : Int32 → Option Int32} {σ : Mem} {F : Nat} {g : Nat → Nat} (hF : F < 9) (hg : ∀ j, j < 8 → mI σ 212 (8 * F + j) = nI (g j)) : ∀ r n s, s + r = 8 → r < n → f_X6_cakeOf_L4 k σ (nI F) n (nI (smN g s)) (nI s) = k (nI (smN g 8))
  | 0, n + 1, s, hs, _ => by
    have : s = 8 := by omega
    subst this
    unfold f_X6_cakeOf_L4
    rw [if_pos (by decide : (8 : Int32) ≤ nI 8)]
  | r + 1, n + 1, s, hs, hn => by
    unfold f_X6_cakeOf_L4
    rw [if_neg (ge8 (s := s) (by omega)), ix8, rdI_n σ 212 _ (show 8 * F + s < 72 by omega) (by decide), wlet_e, hg s (by omega), nI_add, nI_1]
    exact M_cake_L hF hg r n (s + 1) (by omega) (by omega)
theorem M_cake {σ : Mem} {F : Nat} {g : Nat → Nat} (hF : F < 9) (hg : ∀ j, j < 8 → mI σ 212 (8 * F + j) = nI (g j)) : f_X6_cakeOf σ (nI F) = some (nI (smN g 8)) := M_cake_L hF hg 8 FU 0 (by decide) (by decide)
theorem M_widthOf {σ : Mem} {p t n : Nat} (hp : p < 2 ^ 30) (ht : 0 < t) (ht' : t < 2 ^ 30) (hn : n < 2 ^ 30) : f_X6_widthOf σ (nI p) (nI t) (nI n) = some (nI (wdN p t n)) := by
  unfold f_X6_widthOf wdN
  have : n / t ≤ n := Nat.div_le_self _ _
  rw [divI_e _ (nI_ne0 ht (by omega)), pk_div (by omega) ht (by omega), imax0 hp (by omega)]
theorem X_width {σ : Mem} {x p t : Nat} {g : Nat → Nat} (h4 : mI σ x 4 = nI p) (h2 : mI σ x 2 = nI t) (hg : ∀ j, j < 8 → mI σ (x + 1) j = nI (g j)) (hp : p < 2 ^ 30) (ht : 0 < t) (ht' : t < 2 ^ 30) (hn : smN g 8 < 2 ^ 30) : f_X7_width σ x = some (nI (wdN p t (smN g 8))) := by
  have : smN g 8 / t ≤ smN g 8 := Nat.div_le_self _ _
  unfold f_X7_width f_X7_widthWith
  rw [X_all hg, bnd_e, getI_e, getI_e, h4, h2, divI_e _ (nI_ne0 ht (by omega)), pk_div (by omega) ht (by omega), imax0 hp (by omega), bnd_e]
  rfl
theorem rs_e {w : Nat} (h0 : ¬ w = 0) (hw : w < 2 ^ 30) : imax 1 (((10000 : Int32) / nI w) / nI w) = nI (rsN w) := by
  have e : 10000 / w ≤ 10000 := Nat.div_le_self _ _
  have e2 : 10000 / w / w ≤ 10000 / w := Nat.div_le_self _ _
  rw [show (10000 : Int32) = nI 10000 from rfl, pk_div (by decide) (by omega) (by omega), pk_div (by omega) (by omega) (by omega)]
  unfold imax rsN
  rw [show (1 : Int32) = nI 1 from rfl]
  by_cases h : 1 < 10000 / w / w
  · rw [if_pos (nI_lt h (by omega)), Nat.max_eq_right (by omega)]
  · rw [if_neg (nI_nlt (by omega) (by decide)), Nat.max_eq_left (by omega)]
theorem rsN_le (w : Nat) : rsN w ≤ 10000 := by
  have e : 10000 / w ≤ 10000 := Nat.div_le_self _ _
  have e2 : 10000 / w / w ≤ 10000 / w := Nat.div_le_self _ _
  unfold rsN
  omega
theorem rsN_pos (w : Nat) : 1 ≤ rsN w := Nat.le_max_left _ _
theorem M_rs {σ : Mem} {w : Nat} (hw : w < 2 ^ 30) : f_X6_resistOf σ (nI w) = some (if w = 0 then -1 else nI (rsN w)) := by
  unfold f_X6_resistOf
  by_cases h : w = 0
  · subst h; rw [nI_0]; rfl
  · have := nI_ne0 (n := w) (by omega) (by omega)
    rw [if_neg this, divI_e _ this, divI_e _ this, if_neg h, rs_e h hw]
theorem X_rs {σ : Mem} {w : Nat} (hw : w < 2 ^ 30) : f_X7_resistOf σ (nI w) = some (if w = 0 then -1 else nI (rsN w)) := by
  unfold f_X7_resistOf
  by_cases h : w = 0
  · subst h; rw [nI_0]; rfl
  · have := nI_ne0 (n := w) (by omega) (by omega)
    rw [if_neg this, divI_e _ this, divI_e _ this, if_neg h, rs_e h hw]
/-! a filter's numbers: d 0 0 cells, d 0 1..3 press bear bears, d 1 pore, d 2 first, d 3 take, d 4 held, d 5 stuck, d 6 cake -/
abbrev Fdt : Type := Nat → Nat → Nat
def hdN (d : Fdt) (c : Nat) : Nat := smN (fun s => d 4 (8 * c + s)) 8
def wdD (d : Fdt) (c : Nat) : Nat := wdN (d 1 c) (d 3 c) (hdN d c)
def ckN (d : Fdt) : Nat := smN (d 6) 8
def XFil (σ : Mem) (i : Nat) (ci : Nat → Nat) (d : Fdt) : Prop :=
  mI σ i 5 = nI (d 0 0) ∧ (∀ c, c < d 0 0 → mR σ (i + 1) c = some (ci c) ∧ mI σ (ci c) 4 = nI (d 1 c) ∧ mI σ (ci c) 1 = nI (d 2 c) ∧ mI σ (ci c) 2 = nI (d 3 c) ∧ ∀ s, s < 8 → mI σ (ci c + 1) s = nI (d 4 (8 * c + s)) ∧ mI σ (ci c + 2) s = nI (d 5 (8 * c + s))) ∧
  (∀ s, s < 8 → mI σ (i + 3) s = nI (d 6 s)) ∧ mI σ (i + 4) 0 = nI (d 0 1) ∧ mI σ (i + 4) 1 = nI (d 0 2) ∧ mI σ (i + 4) 2 = nI (d 0 3)
def MFil (σ : Mem) (f : Nat) (d : Fdt) : Prop :=
  mI σ 206 f = nI (d 0 0) ∧ (∀ c, c < d 0 0 → mI σ 207 (10 * f + c) = nI (d 1 c) ∧ mI σ 209 (10 * f + c) = nI (d 3 c) ∧ ∀ s, s < 8 → mI σ 210 (8 * (10 * f + c) + s) = nI (d 4 (8 * c + s))) ∧
  (∀ s, s < 8 → mI σ 212 (8 * f + s) = nI (d 6 s)) ∧ mI σ 213 f = nI (d 0 1)
def OKf (d : Fdt) (B : Nat) : Prop :=
  d 0 0 ≤ 10 ∧ (∀ c, c < d 0 0 → 1 ≤ d 1 c ∧ d 1 c ≤ 20 ∧ 1 ≤ d 3 c ∧ d 3 c ≤ 1000 ∧ hdN d c ≤ 100000) ∧ (∀ s, s < 8 → d 6 s ≤ B) ∧ 1 ≤ d 0 1 ∧ d 0 1 ≤ 1000
section FL
variable {σ : Mem} {i f B : Nat} {ci : Nat → Nat} {d : Fdt}
theorem X_wd (h : XFil σ i ci d) (ok : OKf d B) {c : Nat} (hc : c < d 0 0) : f_X7_width σ (ci c) = some (nI (wdD d c)) := by
  obtain ⟨-, h2, -⟩ := h
  obtain ⟨-, o2, -⟩ := ok
  have a := h2 c hc
  have b := o2 c hc
  exact X_width (g := fun s => d 4 (8 * c + s)) a.2.1 a.2.2.2.1 (fun s hs => (a.2.2.2.2 s hs).1) (by omega) (by omega) (by omega) (by have := b.2.2.2.2; unfold hdN at this; omega)
theorem wdD_le (ok : OKf d B) {c : Nat} (hc : c < d 0 0) : wdD d c ≤ 20 := by
  have := (ok.2.1 c hc).2.1
  exact Nat.le_trans (Nat.sub_le _ _) this
theorem M_wd (hf : f < 9) (h : MFil σ f d) (ok : OKf d B) {c : Nat} (hc : c < d 0 0) : f_X6_width σ (nI f) (nI c) = some (nI (wdD d c)) := by
  obtain ⟨-, h2, -⟩ := h
  have o1 := ok.1
  obtain ⟨-, o2, -⟩ := ok
  have a := h2 c hc
  have b := o2 c hc
  unfold f_X6_width
  rw [ix10, rdI_n σ 207 _ (show 10 * f + c < 90 by omega) (by decide), rdI_n σ 209 _ (show 10 * f + c < 90 by omega) (by decide), M_held (g := fun s => d 4 (8 * c + s)) hf (by omega) a.2.2, bnd_e, a.1, a.2.1, M_widthOf (by omega) (by omega) (by omega) (by have := b.2.2.2.2; unfold hdN at this; omega), bnd_e]
  rfl
/-! open or not, and the bed -/
def opF (w : Nat → Nat) : Nat → Nat → Bool
  | _, 0 => true
  | s, r + 1 => if w s = 0 then false else opF w (s + 1) r
def opD (d : Fdt) : Bool := opF (wdD d) 0 (d 0 0)
def bdN (d : Fdt) : Nat := smN (fun c => rsN (wdD d c)) (d 0 0)
theorem opF_all {w : Nat → Nat} : ∀ r s, opF w s r = true → ∀ c, s ≤ c → c < s + r → w c ≠ 0
  | 0, s, _, c, h1, h2 => by omega
  | r + 1, s, h, c, h1, h2 => by
    unfold opF at h
    split at h
    · cases h
    · rename_i hw
      by_cases hc : c = s
      · subst hc; exact hw
      · exact opF_all r (s + 1) h c (by omega) (by omega)
theorem opF_of {w : Nat → Nat} : ∀ r s, (∀ c, s ≤ c → c < s + r → w c ≠ 0) → opF w s r = true
  | 0, _, _ => rfl
  | r + 1, s, h => by
    unfold opF
    rw [if_neg (h s (Nat.le_refl _) (by omega))]
    exact opF_of r (s + 1) (fun c h1 h2 => h c (by omega) (by omega))
theorem bdN_le (ok : OKf d B) : bdN d ≤ 100000 := by
  have := smN_le (g := fun c => rsN (wdD d c)) (B := 10000) (d 0 0) (fun k _ => rsN_le _)
  have o := ok.1
  unfold bdN
  have : d 0 0 * 10000 ≤ 10 * 10000 := Nat.mul_le_mul_right _ o
  omega
theorem X_open_L (h : XFil σ i ci d) (ok : OKf d B) {k0 k1 : Option Int32} : ∀ r n s, s + r = d 0 0 → r < n → f_X3_isOpen_L2 k0 k1 σ i n (nI s) = if opF (wdD d) s r then k1 else k0
  | 0, n + 1, s, hs, _ => by
    unfold f_X3_isOpen_L2
    rw [getI_e, h.1, if_pos (nI_le (by omega) (by have := ok.1; omega))]
    rfl
  | r + 1, n + 1, s, hs, hn => by
    have o1 := ok.1
    unfold f_X3_isOpen_L2
    rw [getI_e, h.1, if_neg (nI_ge (by omega) (by omega)), rdN_n _ (h.2.1 s (by omega)).1 (by omega) (by decide), X_wd h ok (by omega), bnd_e]
    unfold opF
    by_cases hw : wdD d s = 0
    · rw [hw, nI_0]; rfl
    · rw [if_neg (nI_ne0 (by omega) (by have := wdD_le ok (c := s) (by omega); omega)), if_neg hw, nI_1]
      exact X_open_L h ok r n (s + 1) (by omega) (by omega)
theorem X_open (h : XFil σ i ci d) (ok : OKf d B) : f_X3_isOpen σ i = some (if opD d then 1 else 0) := by
  have := X_open_L h ok (k0 := retZ 0) (k1 := retZ 1) (d 0 0) FU 0 (by omega) (by have := ok.1; unfold FU; omega)
  unfold f_X3_isOpen
  show f_X3_isOpen_L2 (retZ 0) (retZ 1) σ i FU (nI 0) = _
  rw [this]
  unfold opD
  cases opF (wdD d) 0 (d 0 0) <;> rfl
theorem X_bed_L (h : XFil σ i ci d) (ok : OKf d B) (ho : opD d = true) {k : Int32 → Option Int32} : ∀ r n s, s + r = d 0 0 → r < n → f_X3_bed_L4 k σ i n (nI (smN (fun c => rsN (wdD d c)) s)) (nI s) = k (nI (bdN d))
  | 0, n + 1, s, hs, _ => by
    unfold f_X3_bed_L4
    have : s = d 0 0 := by omega
    subst this
    rw [getI_e, h.1, if_pos (nI_le (by omega) (by have := ok.1; omega))]
    rfl
  | r + 1, n + 1, s, hs, hn => by
    have o1 := ok.1
    have hw := opF_all _ _ ho s (by omega) (by omega)
    unfold f_X3_bed_L4 f_X7_resist
    rw [getI_e, h.1, if_neg (nI_ge (by omega) (by omega)), rdN_n _ (h.2.1 s (by omega)).1 (by omega) (by decide), X_wd h ok (by omega), bnd_e, X_rs (by have := wdD_le ok (c := s) (by omega); omega), bnd_e, bnd_e, wlet_e, if_neg hw, nI_add, nI_1]
    exact X_bed_L h ok ho r n (s + 1) (by omega) (by omega)
theorem X_bed (h : XFil σ i ci d) (ok : OKf d B) (ho : opD d = true) : f_X3_bed σ i = some (nI (bdN d)) := X_bed_L h ok ho (d 0 0) FU 0 (by omega) (by have := ok.1; unfold FU; omega)
theorem M_bed_L (hf : f < 9) (h : MFil σ f d) (ok : OKf d B) {k0 : Option Int32} {k : Int32 → Option Int32} : ∀ r n s, s + r = d 0 0 → r < n → f_X6_bed_L4 k0 k σ (nI f) n (nI (smN (fun c => rsN (wdD d c)) s)) (nI s) = if opF (wdD d) s r then k (nI (bdN d)) else k0
  | 0, n + 1, s, hs, _ => by
    unfold f_X6_bed_L4
    have : s = d 0 0 := by omega
    subst this
    rw [rdI_n σ 206 _ hf (by decide), h.1, if_pos (nI_le (by omega) (by have := ok.1; omega))]
    rfl
  | r + 1, n + 1, s, hs, hn => by
    have o1 := ok.1
    have hl := wdD_le ok (c := s) (by omega)
    unfold f_X6_bed_L4
    rw [rdI_n σ 206 _ hf (by decide), h.1, if_neg (nI_ge (by omega) (by omega)), M_wd hf h ok (by omega), bnd_e, M_rs (by omega), bnd_e]
    unfold opF
    by_cases hw : wdD d s = 0
    · rw [if_pos hw, if_pos rfl, if_pos hw]; rfl
    · have hr := rsN_le (wdD d s)
      rw [if_neg hw, if_neg hw, if_neg (fun q => by
        have := congrArg Int32.toInt q
        rw [nI_toInt (by omega)] at this
        have e : (-1 : Int32).toInt = -1 := by decide
        omega), wlet_e, nI_add, nI_1]
      exact M_bed_L hf h ok r n (s + 1) (by omega) (by omega)
theorem M_bed (hf : f < 9) (h : MFil σ f d) (ok : OKf d B) : f_X6_bed σ (nI f) = some (if opD d then nI (bdN d) else -1) := by
  have := M_bed_L hf h ok (k0 := some (-1)) (k := fun x => some x) (d 0 0) FU 0 (by omega) (by have := ok.1; unfold FU; omega)
  unfold f_X6_bed
  rw [show (0 : Int32) = nI (smN (fun c => rsN (wdD d c)) 0) from rfl]
  rw [show f_X6_bed_L4 (some (-1)) (fun x8 => some x8) σ (nI f) FU (nI (smN (fun c => rsN (wdD d c)) 0)) (nI (smN (fun c => rsN (wdD d c)) 0)) = _ from this]
  unfold opD
  cases opF (wdD d) 0 (d 0 0) <;> rfl
theorem X_ck (h : XFil σ i ci d) : f_X19_all σ (i + 2) = some (nI (ckN d)) := X_all h.2.2.1
theorem M_ck (hf : f < 9) (h : MFil σ f d) : f_X6_cakeOf σ (nI f) = some (nI (ckN d)) := M_cake hf h.2.2.1
theorem ckN_le (ok : OKf d B) : ckN d ≤ 8 * B := smN_le 8 ok.2.2.1
end FL
