/-! read: words, numbers and signs of a tape -/
section C9ys
def rnF (p : Nat → Bool) (n : Nat) : Nat → Nat → Nat
  | 0, b => b
  | m + 1, b => if b < n ∧ p b = true then rnF p n m (b + 1) else b
/-- the first place from b on where p doesn't hold -/
def rn (p : Nat → Bool) (n b : Nat) : Nat := rnF p n (n - b) b
theorem rn_stop {p : Nat → Bool} {n b : Nat} (h : ¬ (b < n ∧ p b = true)) : rn p n b = b := by
  unfold rn
  cases n - b with
  | zero => rfl
  | succ m => rw [rnF, if_neg h]
theorem rn_step {p : Nat → Bool} {n b : Nat} (h1 : b < n) (h2 : p b = true) : rn p n b = rn p n (b + 1) := by
  unfold rn
  rw [show n - b = (n - (b + 1)) + 1 by omega, rnF, if_pos ⟨h1, h2⟩]
theorem rn_ge {p : Nat → Bool} {n : Nat} : ∀ (m b : Nat), n - b ≤ m → b ≤ rn p n b ∧ (b ≤ n → rn p n b ≤ n) ∧ (∀ k, b ≤ k → k < rn p n b → p k = true ∧ k < n) ∧ ¬ (rn p n b < n ∧ p (rn p n b) = true)
  | 0, b, h => by
    have e : rn p n b = b := rn_stop (fun z => by omega)
    rw [e]
    exact ⟨Nat.le_refl _, fun z => z, fun k h1 h2 => by omega, fun z => by omega⟩
  | m + 1, b, h => by
    by_cases q : b < n ∧ p b = true
    · rw [rn_step q.1 q.2]
      obtain ⟨a, b1_, c, e⟩ := rn_ge (p := p) (n := n) m (b + 1) (by omega)
      refine ⟨by omega, fun _ => b1_ (by omega), fun k h1 h2 => ?_, e⟩
      by_cases e2 : k = b
      · rw [e2]; exact ⟨q.2, q.1⟩
      · exact c k (by omega) h2
    · rw [rn_stop q]
      exact ⟨Nat.le_refl _, fun z => z, fun k h1 h2 => by omega, q⟩
def isS (c : Nat) : Bool := decide (c = 32) || decide (c = 10)
def isL (c : Nat) : Bool := decide (97 ≤ c ∧ c ≤ 122)
def isD (c : Nat) : Bool := decide (48 ≤ c ∧ c ≤ 57)
def sk (tb : Nat → Nat) (n b : Nat) : Nat := rn (fun k => isS (tb k)) n b
def kd (tb : Nat → Nat) (n b : Nat) : Nat := if n ≤ b then 0 else if isL (tb b) = true then 1 else if isD (tb b) = true then 2 else if tb b = 59 then 3 else 4
def en (tb : Nat → Nat) (n b : Nat) : Nat := if n ≤ b then b else if isL (tb b) = true then rn (fun k => isL (tb k)) n b else if isD (tb b) = true then rn (fun k => isD (tb k)) n b else b + 1
/-- the next token's begin -/
def nb (tb : Nat → Nat) (n b : Nat) : Nat := sk tb n (en tb n b)
theorem sk_ge (tb : Nat → Nat) (n b : Nat) : b ≤ sk tb n b ∧ (b ≤ n → sk tb n b ≤ n) := ⟨(rn_ge (n - b) b (Nat.le_refl _)).1, (rn_ge (n - b) b (Nat.le_refl _)).2.1⟩
theorem en_ge (tb : Nat → Nat) (n b : Nat) : b ≤ en tb n b ∧ (b ≤ n → en tb n b ≤ n) := by
  unfold en
  split
  · exact ⟨Nat.le_refl _, fun z => z⟩
  · split
    · exact ⟨(rn_ge (n - b) b (Nat.le_refl _)).1, (rn_ge (n - b) b (Nat.le_refl _)).2.1⟩
    · split
      · exact ⟨(rn_ge (n - b) b (Nat.le_refl _)).1, (rn_ge (n - b) b (Nat.le_refl _)).2.1⟩
      · exact ⟨by omega, fun _ => by omega⟩
theorem en_gt {tb : Nat → Nat} {n b : Nat} (h : b < n) : b < en tb n b := by
  unfold en
  rw [if_neg (by omega)]
  split
  · rename_i q
    rw [rn_step h q]
    have := (rn_ge (p := fun k => isL (tb k)) (n - (b + 1)) (b + 1) (Nat.le_refl _)).1
    omega
  · split
    · rename_i q
      rw [rn_step h q]
      have := (rn_ge (p := fun k => isD (tb k)) (n - (b + 1)) (b + 1) (Nat.le_refl _)).1
      omega
    · omega
theorem nb_le {tb : Nat → Nat} {n b : Nat} (h : b ≤ n) : nb tb n b ≤ n := (sk_ge tb n _).2 ((en_ge tb n b).2 h)
theorem kd_lt (tb : Nat → Nat) (n b : Nat) : kd tb n b < 5 := by
  unfold kd
  split
  · omega
  · split
    · omega
    · split
      · omega
      · split <;> omega
/-- a word's first seven letters, five bits each -/
def wcd (tb : Nat → Nat) (b : Nat) : Nat → Nat
  | 0 => 0
  | m + 1 => if m < 7 then wcd tb b m * 32 + (tb (b + m) - 96) else wcd tb b m
theorem wcd_lt (tb : Nat → Nat) (b : Nat) : ∀ m, (∀ k, k < m → isL (tb (b + k)) = true) → wcd tb b m < 32 ^ (min m 7)
  | 0, _ => by show 0 < 32 ^ (min 0 7); decide
  | m + 1, h => by
    have ih := wcd_lt tb b m (fun k hk => h k (by omega))
    have hl := h m (by omega)
    unfold isL at hl
    rw [decide_eq_true_eq] at hl
    rw [wcd]
    split
    · rename_i q
      rw [show min m 7 = m by omega] at ih
      rw [show min (m + 1) 7 = m + 1 by omega, Nat.pow_succ]
      omega
    · rename_i q
      rw [show min m 7 = 7 by omega] at ih
      rw [show min (m + 1) 7 = 7 by omega]
      exact ih
theorem wcd_pos {tb : Nat → Nat} {b : Nat} : ∀ {m}, 0 < m → m ≤ 7 → (∀ k, k < m → isL (tb (b + k)) = true) → 0 < wcd tb b m
  | 0, h, _, _ => by omega
  | m + 1, _, h7, h => by
    have hl := h m (by omega)
    unfold isL at hl
    rw [decide_eq_true_eq] at hl
    rw [wcd, if_pos (by omega)]
    omega
theorem wcd_inj {tb W : Nat → Nat} {b : Nat} : ∀ {m L}, m ≤ 7 → L ≤ 7 → (∀ k, k < m → isL (tb (b + k)) = true) → (∀ k, k < L → isL (W (0 + k)) = true) → (wcd tb b m = wcd W 0 L ↔ m = L ∧ ∀ k, k < m → tb (b + k) = W k)
  | 0, 0, _, _, _, _ => ⟨fun _ => ⟨rfl, fun k hk => absurd hk (by omega)⟩, fun _ => rfl⟩
  | 0, L + 1, _, h7, _, hW => ⟨fun z => by have := wcd_pos (tb := W) (b := 0) (m := L + 1) (by omega) h7 hW; rw [← z] at this; exact absurd this (by rw [wcd]; omega), fun z => absurd z.1 (by omega)⟩
  | m + 1, 0, h7, _, hb, _ => ⟨fun z => by have := wcd_pos (tb := tb) (b := b) (m := m + 1) (by omega) h7 hb; rw [z] at this; exact absurd this (by rw [wcd]; omega), fun z => absurd z.1 (by omega)⟩
  | m + 1, L + 1, h7, h8, hb, hW => by
    have ih := wcd_inj (tb := tb) (W := W) (b := b) (m := m) (L := L) (by omega) (by omega) (fun k hk => hb k (by omega)) (fun k hk => hW k (by omega))
    have h1 := hb m (by omega)
    have h2 := hW L (by omega)
    unfold isL at h1 h2
    rw [decide_eq_true_eq] at h1 h2
    rw [Nat.zero_add] at h2
    rw [wcd, if_pos (by omega), wcd, if_pos (by omega), Nat.zero_add]
    constructor
    · intro z
      have e1 : wcd tb b m = wcd W 0 L := by omega
      obtain ⟨e2, e3⟩ := ih.mp e1
      refine ⟨by omega, fun k hk => ?_⟩
      by_cases q : k = m
      · subst q; rw [← e2] at z h2; rw [← e2] at e1; omega
      · exact e3 k (by omega)
    · rintro ⟨e1, e2⟩
      have e3 : m = L := by omega
      subst e3
      have e4 := ih.mpr ⟨rfl, fun k hk => e2 k (by omega)⟩
      rw [e4, e2 m (by omega)]
/-- a number's first three digits; the same, with all its digits, up to 10000 -/
def rvd (tb : Nat → Nat) (b : Nat) : Nat → Nat
  | 0 => 0
  | m + 1 => if m < 3 then rvd tb b m * 10 + (tb (b + m) - 48) else rvd tb b m
def nvd (tb : Nat → Nat) (b : Nat) : Nat → Nat
  | 0 => 0
  | m + 1 => min 10000 (10 * nvd tb b m + (tb (b + m) - 48))
theorem rvd_lt {tb : Nat → Nat} {b : Nat} : ∀ m, (∀ k, k < m → isD (tb (b + k)) = true) → rvd tb b m < 10 ^ (min m 3)
  | 0, _ => by show 0 < 10 ^ (min 0 3); decide
  | m + 1, h => by
    have ih := rvd_lt (tb := tb) (b := b) m (fun k hk => h k (by omega))
    have hl := h m (by omega)
    unfold isD at hl
    rw [decide_eq_true_eq] at hl
    rw [rvd]
    split
    · rw [show min m 3 = m by omega] at ih
      rw [show min (m + 1) 3 = m + 1 by omega, Nat.pow_succ]
      omega
    · rw [show min m 3 = 3 by omega] at ih
      rw [show min (m + 1) 3 = 3 by omega]
      exact ih
theorem nvd_le {tb : Nat → Nat} {b : Nat} : ∀ m, nvd tb b m ≤ 10000
  | 0 => by rw [nvd]; omega
  | m + 1 => by rw [nvd]; exact Nat.min_le_left _ _
theorem rvd_999 {tb : Nat → Nat} {b m : Nat} (h : ∀ k, k < m → isD (tb (b + k)) = true) : rvd tb b m < 1000 := by
  have h1 := rvd_lt m h
  have h2 : 10 ^ min m 3 ≤ 10 ^ 3 := Nat.pow_le_pow_right (by decide) (by omega)
  omega
theorem nvd_rvd {tb : Nat → Nat} {b : Nat} : ∀ m, m ≤ 3 → (∀ k, k < m → isD (tb (b + k)) = true) → nvd tb b m = rvd tb b m
  | 0, _, _ => rfl
  | m + 1, hm, h => by
    have ih := nvd_rvd (tb := tb) (b := b) m (by omega) (fun k hk => h k (by omega))
    have h3 := rvd_999 (tb := tb) (b := b) (m := m + 1) h
    rw [rvd, if_pos (by omega)] at h3 ⊢
    rw [nvd, ih]
    omega
/-- a number token's value -/
def rv (tb : Nat → Nat) (n b : Nat) : Nat := rvd tb b (en tb n b - b)
theorem tk_D {tb : Nat → Nat} {n b : Nat} (h : kd tb n b = 2) : b < n ∧ isL (tb b) = false ∧ en tb n b = rn (fun k => isD (tb k)) n b ∧ ∀ k, k < en tb n b - b → isD (tb (b + k)) = true := by
  unfold kd at h
  split at h
  · omega
  · split at h
    · omega
    · split at h
      · rename_i q1 q2 q3
        have e : en tb n b = rn (fun k => isD (tb k)) n b := by unfold en; rw [if_neg q1, if_neg q2, if_pos q3]
        refine ⟨by omega, ff_of q2, e, fun k hk => ?_⟩
        rw [e] at hk
        exact ((rn_ge (p := fun k => isD (tb k)) (n - b) b (Nat.le_refl _)).2.2.1 (b + k) (by omega) (by omega)).1
      · split at h <;> omega
theorem tk_L {tb : Nat → Nat} {n b : Nat} (h : kd tb n b = 1) : b < n ∧ isL (tb b) = true ∧ en tb n b = rn (fun k => isL (tb k)) n b ∧ ∀ k, k < en tb n b - b → isL (tb (b + k)) = true := by
  unfold kd at h
  split at h
  · omega
  · split at h
    · rename_i q1 q2
      have e : en tb n b = rn (fun k => isL (tb k)) n b := by unfold en; rw [if_neg q1, if_pos q2]
      refine ⟨by omega, q2, e, fun k hk => ?_⟩
      rw [e] at hk
      exact ((rn_ge (p := fun k => isL (tb k)) (n - b) b (Nat.le_refl _)).2.2.1 (b + k) (by omega) (by omega)).1
    · split at h
      · omega
      · split at h <;> omega
/-- the known words: row ring all star off knots degree -/
def kwL (i : Nat) : Nat := match i with
  | 0 => 3 | 1 => 4 | 2 => 3 | 3 => 4 | 4 => 3 | 5 => 5 | _ => 6
def kwW (i : Nat) : Nat → Nat := fun k => ((match i with
  | 0 => [114, 111, 119] | 1 => [114, 105, 110, 103] | 2 => [97, 108, 108] | 3 => [115, 116, 97, 114] | 4 => [111, 102, 102] | 5 => [107, 110, 111, 116, 115] | _ => [100, 101, 103, 114, 101, 101]) : List Nat).getD k 97
def kwC (i : Nat) : Nat := match i with
  | 0 => 18935 | 1 => 599495 | 2 => 1420 | 3 => 643122 | 4 => 15558 | 5 => 12009107 | _ => 139708581
theorem kw_ok : ∀ i, i < 7 → kwC i = wcd (kwW i) 0 (kwL i) ∧ kwL i ≤ 6 ∧ ∀ k, k < 7 → isL (kwW i (0 + k)) = true := by decide +kernel
theorem kw_ne : ∀ i, i < 7 → ∀ j, j < 7 → kwC i = kwC j → i = j := by decide +kernel
/-- the token is the i-th word -/
def isW (tb : Nat → Nat) (n b i : Nat) : Prop := kd tb n b = 1 ∧ en tb n b - b = kwL i ∧ ∀ k, k < kwL i → tb (b + k) = kwW i k
theorem isW_iff {tb : Nat → Nat} {n b i : Nat} (hi : i < 7) : isW tb n b i ↔ kd tb n b = 1 ∧ en tb n b - b ≤ 6 ∧ wcd tb b (en tb n b - b) = kwC i := by
  obtain ⟨k1, k2, k3⟩ := kw_ok i hi
  unfold isW
  constructor
  · rintro ⟨a, e, c⟩
    have hL := (tk_L a).2.2.2
    refine ⟨a, by omega, ?_⟩
    rw [k1]
    exact (wcd_inj (by omega) (by omega) hL (fun k hk => k3 k (by omega))).mpr ⟨e, fun k hk => c k (by omega)⟩
  · rintro ⟨a, e, c⟩
    have hL := (tk_L a).2.2.2
    rw [k1] at c
    obtain ⟨c1, c2⟩ := (wcd_inj (by omega) (by omega) hL (fun k hk => k3 k (by omega))).mp c
    exact ⟨a, c1, fun k hk => c2 k (by omega)⟩
theorem isW_one {tb : Nat → Nat} {n b i j : Nat} (hi : i < 7) (hj : j < 7) (h1 : isW tb n b i) (h2 : isW tb n b j) : i = j := kw_ne i hi j hj (((isW_iff hi).mp h1).2.2.symm.trans ((isW_iff hj).mp h2).2.2)
noncomputable def isWb (tb : Nat → Nat) (n b i : Nat) : Bool := @decide (isW tb n b i) (Classical.propDecidable _)
theorem isWb_t {tb : Nat → Nat} {n b i : Nat} : isWb tb n b i = true ↔ isW tb n b i := dcp
end C9ys
