/-! bits of ints as sets of knots -/
def bI (b : Bool) : Int32 := if b then nI 1 else nI 0
theorem bI_t : bI true = nI 1 := rfl
theorem bI_f : bI false = nI 0 := rfl
theorem bI_eq1 {b : Bool} : bI b = nI 1 ↔ b = true := by cases b <;> decide
theorem bI_eq0 {b : Bool} : bI b = nI 0 ↔ b = false := by cases b <;> decide
theorem bI_nar (b : Bool) : narrow .boolean (.int (bI b)) = .int (bI b) := by cases b <;> rfl
/-- the set of one knot -/
def b1 (k : Nat) : Int32 := nI 1 <<< (nI k &&& 31)
theorem bt_1 (i : Nat) : bt (nI 1) i = decide (i = 0) := by
  rcases Nat.lt_or_ge i 32 with h | h
  · exact (by decide +kernel : ∀ i, i < 32 → bt (nI 1) i = decide (i = 0)) i h
  · rw [b_big h, decide_eq_false (by omega)]
theorem bt_b1 {k i : Nat} (hk : k < 32) : bt (b1 k) i = decide (i = k) := by
  rcases Nat.lt_or_ge i 32 with h | h
  · unfold b1
    rw [b_shl k hk _ h, bt_1]
    by_cases q : i = k
    · subst q; simp
    · simp only [q, decide_false]
      by_cases q2 : k ≤ i
      · simp [q2]; omega
      · simp [q2]
  · rw [b_big h, decide_eq_false (by omega)]
theorem bt_not (x : Int32) {i : Nat} (h : i < 32) : bt (x ^^^ (-1)) i = !bt x i := by
  rw [b_xor, b_m1 i h]; simp
/-- the test of one bit -/
theorem bt_and1 (x : Int32) {k : Nat} (hk : k < 32) : (x >>> (nI k &&& 31)) &&& nI 1 = bI (bt x k) := by
  refine b_ext fun i hi => ?_
  rw [b_and, b_sshr k hk x hi, bt_1]
  by_cases h0 : i = 0
  · subst h0
    simp only [Nat.add_zero, hk, if_true, decide_true, Bool.and_true]
    cases bt x k <;> decide
  · simp only [h0, decide_false, Bool.and_false]
    cases bt x k
    · rw [bI_f]; exact (b_0 i).symm
    · rw [bI_t, bt_1]; simp [h0]
theorem bt_or1 (x : Int32) {k : Nat} (hk : k < 32) (i : Nat) : bt (x ||| b1 k) i = (bt x i || decide (i = k)) := by rw [b_or, bt_b1 hk]
theorem bt_clr (x : Int32) {k : Nat} (hk : k < 32) {i : Nat} (hi : i < 32) : bt (x &&& (b1 k ^^^ (-1))) i = (bt x i && !decide (i = k)) := by rw [b_and, bt_not _ hi, bt_b1 hk]
theorem bt_zero {x : Int32} : x = nI 0 ↔ ∀ i, i < 32 → bt x i = false := by
  constructor
  · rintro rfl i _; exact b_0 i
  · intro h; exact b_ext fun i hi => (h i hi).trans (b_0 i).symm
/-- a line drawn, a line taken off -/
def jn (f : Nat → Int32) (a b : Nat) : Nat → Int32 := upd (upd f a (f a ||| b1 b)) b (upd f a (f a ||| b1 b) b ||| b1 a)
def pt (f : Nat → Int32) (a b : Nat) : Nat → Int32 := upd (upd f a (f a &&& (b1 b ^^^ (-1)))) b (upd f a (f a &&& (b1 b ^^^ (-1))) b &&& (b1 a ^^^ (-1)))
/-- one field's array is another one -/
def fA {α : Type} (A : Nat → Nat → α) (k : Nat) (g : Nat → α) : Nat → Nat → α := fun i => if i = k then g else A i
theorem fA_at {α : Type} (A : Nat → Nat → α) (k : Nat) (g : Nat → α) : fA A k g k = g := by simp [fA]
theorem fA_ne {α : Type} {A : Nat → Nat → α} {k i : Nat} {g : Nat → α} (h : i ≠ k) : fA A k g i = A i := by simp [fA, h]
theorem fA_fA {α : Type} {A : Nat → Nat → α} {k : Nat} {g h : Nat → α} : fA (fA A k g) k h = fA A k h := by
  funext i; unfold fA; split <;> rfl
theorem fA_self {α : Type} {A : Nat → Nat → α} {k : Nat} : fA A k (A k) = A := by
  funext i; unfold fA; split
  · subst_vars; rfl
  · rfl
theorem zup2_fA (A : Nat → Nat → Int32) (k j : Nat) (x : Int32) : zup2 A k j x = fA A k (upd (A k) j x) := by
  funext a b; simp only [zup2, fA, upd]; split
  · subst_vars; rfl
  · rfl
theorem zup2_jn {A : Nat → Nat → Int32} {a b : Nat} : zup2 (zup2 A 6 a (A 6 a ||| b1 b)) 6 b (zup2 A 6 a (A 6 a ||| b1 b) 6 b ||| b1 a) = fA A 6 (jn (A 6) a b) := by
  rw [zup2_fA, zup2_fA, fA_fA, fA_at]; rfl
theorem zup2_pt {A : Nat → Nat → Int32} {a b : Nat} : zup2 (zup2 A 6 a (A 6 a &&& (b1 b ^^^ (-1)))) 6 b (zup2 A 6 a (A 6 a &&& (b1 b ^^^ (-1))) 6 b &&& (b1 a ^^^ (-1))) = fA A 6 (pt (A 6) a b) := by
  rw [zup2_fA, zup2_fA, fA_fA, fA_at]; rfl
/-- how many bits -/
def pc32 (x : Int32) : Nat := fb_ct (bt x) 32
theorem pc32_le (x : Int32) : pc32 x ≤ 32 := fb_ct_le _ _
theorem exists_low {x : Int32} (h : ¬ x = 0) : ∃ i, i < 32 ∧ bt x i = true ∧ ∀ j, j < i → bt x j = false := by
  have h1 : ∃ i, i < 32 ∧ bt x i = true := by
    refine Classical.byContradiction fun q => h (bt_zero.mpr fun i hi => ?_)
    cases hb : bt x i
    · rfl
    · exact absurd ⟨i, hi, hb⟩ q
  obtain ⟨i, h2, h3, h4⟩ := fb_first (p := fun i => bt x i = true) (n := 32) h1
  exact ⟨i, h2, h3, fun j hj => by have := h4 j hj; cases hb : bt x j; rfl; exact absurd hb this⟩
theorem bt_pred {x : Int32} {i : Nat} (hi : i < 32) (h1 : bt x i = true) (h0 : ∀ j, j < i → bt x j = false) (j : Nat) : bt (x - nI 1) j = if j < i then true else (bt x j && !decide (j = i)) := by
  have hb : ∀ j, bt x j = x.toBitVec.toNat.testBit j := fun j => rfl
  generalize hn : x.toBitVec.toNat = n at hb
  have hlt : n < 2 ^ 32 := by rw [← hn]; exact x.toBitVec.isLt
  have hm : n % 2 ^ i = 0 := by
    refine Nat.eq_of_testBit_eq fun j => ?_
    rw [Nat.testBit_mod_two_pow, Nat.zero_testBit]
    by_cases q : j < i
    · rw [← hb, h0 j q]; simp
    · simp [q]
  obtain ⟨m, rfl⟩ : ∃ m, n = 2 ^ i * m := ⟨n / 2 ^ i, by have := Nat.div_add_mod n (2 ^ i); omega⟩
  have t1 : ∀ j, (2 ^ i * m).testBit j = if j < i then false else m.testBit (j - i) := fun j => by
    have := Nat.testBit_two_pow_mul_add m (b := 0) (i := i) (Nat.two_pow_pos i) j
    simpa using this
  have hodd : m.testBit 0 = true := by
    have := t1 i
    rw [← hb, h1] at this
    simpa using this.symm
  have hm1 : m % 2 = 1 := by simpa [Nat.testBit_zero] using hodd
  have hpos : 0 < 2 ^ i := Nat.two_pow_pos i
  have e : (x - nI 1).toBitVec.toNat = 2 ^ i * (m - 1) + (2 ^ i - 1) := by
    rw [Int32.toBitVec_sub, BitVec.toNat_sub, hn, show (nI 1).toBitVec.toNat = 1 by decide]
    have h2 : 2 ^ i * m = 2 ^ i * (m - 1) + 2 ^ i := by
      obtain ⟨k, rfl⟩ : ∃ k, m = k + 1 := ⟨m - 1, by omega⟩
      rw [Nat.add_sub_cancel, Nat.mul_add, Nat.mul_one]
    omega
  have hb2 : bt (x - nI 1) j = (2 ^ i * (m - 1) + (2 ^ i - 1)).testBit j := by rw [← e]; rfl
  rw [hb2, Nat.testBit_two_pow_mul_add (m - 1) (by omega : 2 ^ i - 1 < 2 ^ i), hb, t1]
  by_cases q : j < i
  · simp [q, Nat.testBit_two_pow_sub_one]
  · simp only [q, if_false]
    by_cases q2 : j = i
    · subst q2
      rw [Nat.sub_self, hodd]
      simp [Nat.testBit_zero]; omega
    · obtain ⟨k, hk⟩ : ∃ k, j - i = k + 1 := ⟨j - i - 1, by omega⟩
      rw [hk, Nat.testBit_succ, Nat.testBit_succ, show (m - 1) / 2 = m / 2 by omega]
      simp [q2]
/-- x and x - 1: the lowest bit goes -/
theorem bt_low {x : Int32} {i : Nat} (hi : i < 32) (h1 : bt x i = true) (h0 : ∀ j, j < i → bt x j = false) (j : Nat) : bt (x &&& (x - nI 1)) j = (bt x j && !decide (j = i)) := by
  rw [b_and, bt_pred hi h1 h0 j]
  by_cases q : j < i
  · simp [h0 j q]
  · simp only [q, if_false]
    cases bt x j <;> simp
/-- the bits below the lowest one -/
theorem low_mask {x : Int32} {i : Nat} (hi : i < 32) (h1 : bt x i = true) (h0 : ∀ j, j < i → bt x j = false) : (x ^^^ (-1)) &&& (x - nI 1) = nI (2 ^ i - 1) := by
  refine b_ext fun j hj => ?_
  rw [b_and, bt_not _ hj, bt_pred hi h1 h0 j]
  have e : bt (nI (2 ^ i - 1)) j = decide (j < i) := (by decide +kernel : ∀ i, i < 32 → ∀ j, j < 32 → bt (nI (2 ^ i - 1)) j = decide (j < i)) i hi j hj
  rw [e]
  by_cases q : j < i
  · simp [q, h0 j q]
  · simp only [q, if_false, decide_false]
    cases bt x j <;> simp
theorem pc32_low {x : Int32} (h : ¬ x = 0) : pc32 (x &&& (x - nI 1)) + 1 = pc32 x := by
  obtain ⟨i, hi, h1, h0⟩ := exists_low h
  have e : ∀ j, bt (x &&& (x - nI 1)) j = if j = i then false else bt x j := fun j => by
    rw [bt_low hi h1 h0 j]
    by_cases q : j = i <;> simp [q]
  have := fb_ct_upd (bt x) false hi
  unfold pc32
  rw [show bt (x &&& (x - nI 1)) = fun k => if k = i then false else bt x k from funext e]
  rw [h1] at this
  simpa using this
theorem upd_upd (f : Nat → Int32) (k : Nat) (x y : Int32) : upd (upd f k x) k y = upd f k y := by
  funext j; unfold upd; split <;> rfl
theorem jn_cong {f g : Nat → Int32} (h : ∀ k, k < 24 → f k = g k) {a b k : Nat} (ha : a < 24) (hb : b < 24) (hk : k < 24) : jn f a b k = jn g a b k := by
  simp only [jn, upd, h a ha, h b hb, h k hk]
theorem pt_cong {f g : Nat → Int32} (h : ∀ k, k < 24 → f k = g k) {a b k : Nat} (ha : a < 24) (hb : b < 24) (hk : k < 24) : pt f a b k = pt g a b k := by
  simp only [pt, upd, h a ha, h b hb, h k hk]
