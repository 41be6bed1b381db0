/-! the tape: bytes fed -/
section C38T
def bsg (x : Int32) : Int32 := x.toInt8.toInt32
theorem bt_bsg (x : Int32) {i : Nat} (hi : i < 32) : bt (bsg x) i = if i < 8 then bt x i else bt x 7 := by
  have e : (x.toInt8.toBitVec) = x.toBitVec.setWidth 8 := by
    rw [Int32.toBitVec_toInt8]
    refine BitVec.eq_of_getLsbD_eq fun k hk => ?_
    rw [BitVec.getLsbD_signExtend, BitVec.getLsbD_setWidth]
    simp [hk]
    omega
  unfold bsg bt
  rw [Int8.toBitVec_toInt32, e, BitVec.getLsbD_signExtend]
  simp only [hi, decide_true, Bool.true_and]
  split
  · rename_i h
    rw [BitVec.getLsbD_setWidth]; simp [h]
  · rename_i h
    rw [BitVec.msb_eq_getLsbD_last, BitVec.getLsbD_setWidth]
    simp
theorem bt_255 (i : Nat) : bt (nI 255) i = decide (i < 8) := by
  rcases Nat.lt_or_ge i 32 with h | h
  · exact (by decide +kernel : ∀ i, i < 32 → bt (nI 255) i = decide (i < 8)) i h
  · rw [b_big h, decide_eq_false (by omega)]
theorem bsg_and (x : Int32) : bsg x &&& nI 255 = x &&& nI 255 := by
  refine b_ext fun i hi => ?_
  rw [b_and, b_and, bt_255, bt_bsg x hi]
  by_cases h : i < 8 <;> simp [h]
theorem bsg_of (x : Int32) : bsg (x &&& nI 255) = bsg x := by
  refine b_ext fun i hi => ?_
  rw [bt_bsg _ hi, bt_bsg _ hi]
  simp only [b_and, bt_255]
  by_cases h : i < 8 <;> simp [h]
theorem bsg_bsg (x : Int32) : bsg (bsg x) = bsg x := by
  refine b_ext fun i hi => ?_
  rw [bt_bsg (bsg x) hi, bt_bsg x hi, bt_bsg x (show 7 < 32 by omega)]
  by_cases h : i < 8 <;> simp [h]
/-- a byte on both tapes -/
def byB (T u : Int32) : Prop := T = bsg u ∧ u = T &&& nI 255
theorem byB_of (x : Int32) : byB (bsg x) (x &&& nI 255) := ⟨(bsg_of x).symm, (bsg_and x).symm⟩
/-- the k-th byte of five ints -/
def fdw (a b c d e : Int32) (q : Nat) : Int32 := if q = 0 then a else if q = 1 then b else if q = 2 then c else if q = 3 then d else e
def fdB (a b c d e : Int32) (k : Nat) : Int32 := fdw a b c d e (k / 4) >>> (nI (24 - 8 * (k % 4)) &&& 31)
end C38T
