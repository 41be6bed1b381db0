/-! how many bits: the sums in fields of bits -/
section BC1
def un (x : Int32) : Nat := x.toBitVec.toNat
theorem un_lt (x : Int32) : un x < 2 ^ 32 := x.toBitVec.isLt
theorem bt_un (x : Int32) (i : Nat) : bt x i = (un x).testBit i := rfl
theorem un_inj {x y : Int32} (h : un x = un y) : x = y := Int32.toBitVec_inj.mp (BitVec.eq_of_toNat_eq h)
theorem un_and (x y : Int32) : un (x &&& y) = un x &&& un y := by unfold un; rw [Int32.toBitVec_and, BitVec.toNat_and]
theorem un_add {x y : Int32} (h : un x + un y < 2 ^ 32) : un (x + y) = un x + un y := by
  unfold un at h ⊢; rw [Int32.toBitVec_add, BitVec.toNat_add, Nat.mod_eq_of_lt h]
theorem un_sub {x y : Int32} (h : un y ≤ un x) : un (x - y) = un x - un y := by
  have hx := un_lt x
  have hy := un_lt y
  unfold un at h hx hy ⊢; rw [Int32.toBitVec_sub, BitVec.toNat_sub]
  omega
theorem un_ushr (x : Int32) {n : Nat} (hn : n < 32) : un (x.toUInt32 >>> ((nI n).toUInt32 &&& Int32.toUInt32 31)).toInt32 = un x / 2 ^ n := by
  refine Nat.eq_of_testBit_eq fun i => ?_
  rw [← bt_un, b_ushr n hn x i, bt_un, Nat.testBit_div_two_pow, Nat.add_comm]
theorem dgs (k u lo hi m M : Nat) (hk : k ≤ 8) (hm : m < 2 ^ k) (h1 : u / 256 = hi) (h2 : u % 2 ^ k = lo % 2 ^ k) : u &&& (m + 256 * M) = (lo &&& m) + 256 * (hi &&& M) := by
  have e1 : (u &&& (m + 256 * M)) / 256 = hi &&& M := by
    rw [show (256 : Nat) = 2 ^ 8 from rfl, Nat.and_div_two_pow, show (2 : Nat) ^ 8 = 256 from rfl, h1, show (m + 256 * M) / 256 = M from by
      have : m < 256 := Nat.lt_of_lt_of_le hm (Nat.pow_le_pow_right (by decide) hk)
      omega]
  have e2 : (u &&& (m + 256 * M)) % 256 = lo &&& m := by
    have hm8 : m < 256 := Nat.lt_of_lt_of_le hm (Nat.pow_le_pow_right (by decide) hk)
    have e3 : (u &&& (m + 256 * M)) % 256 = (u % 256) &&& m := by
      rw [show (256 : Nat) = 2 ^ 8 from rfl, Nat.and_mod_two_pow, show (2 : Nat) ^ 8 = 256 from rfl, show (m + 256 * M) % 256 = m by omega]
    have hlt : ∀ v : Nat, v &&& m < 2 ^ k := fun v => Nat.lt_of_le_of_lt Nat.and_le_right hm
    have key : ∀ v : Nat, v &&& m = (v % 2 ^ k) &&& m := fun v => by
      have := Nat.and_mod_two_pow (a := v) (b := m) (n := k)
      rw [Nat.mod_eq_of_lt (hlt v), Nat.mod_eq_of_lt hm] at this
      exact this
    rw [e3, key (u % 256), key lo, ← h2, show (256 : Nat) = 2 ^ 8 from rfl, Nat.mod_mod_of_dvd _ (Nat.pow_dvd_pow 2 hk)]
  omega
def bs1 (a : Nat) : Nat := a - (a / 2 &&& 85)
def bs2 (a : Nat) : Nat := (a &&& 51) + (a / 4 &&& 51)
def bs3 (a : Nat) : Nat := (a + a / 16) &&& 15
def pp8 (a : Nat) : Nat := fb_ct (a.testBit) 8
theorem bs1_ok : ∀ a, a < 256 → (a / 2 &&& 85) ≤ a ∧ bs1 a < 256 ∧ bs2 (bs1 a) < 256 ∧ bs2 (bs1 a) % 16 ≤ 4 ∧ bs2 (bs1 a) / 16 ≤ 4 ∧ bs3 (bs2 (bs1 a)) = pp8 a := by decide +kernel
theorem bs_and_le (a m : Nat) (h : m < 256) : (a &&& m) ≤ m := Nat.and_le_right
theorem pp8_le (a : Nat) : pp8 a ≤ 8 := fb_ct_le _ _
theorem bcF (p q r t : Nat) (hp : p ≤ 8) (hq : q ≤ 8) (hr : r ≤ 8) (ht : t ≤ 8) : (p + 256 * (q + 256 * (r + 256 * t))) + (p + 256 * (q + 256 * (r + 256 * t))) / 256 < 2 ^ 32 ∧ ((p + 256 * (q + 256 * (r + 256 * t))) + (p + 256 * (q + 256 * (r + 256 * t))) / 256) + ((p + 256 * (q + 256 * (r + 256 * t))) + (p + 256 * (q + 256 * (r + 256 * t))) / 256) / 65536 < 2 ^ 32 ∧ (((p + 256 * (q + 256 * (r + 256 * t))) + (p + 256 * (q + 256 * (r + 256 * t))) / 256) + ((p + 256 * (q + 256 * (r + 256 * t))) + (p + 256 * (q + 256 * (r + 256 * t))) / 256) / 65536) &&& 63 = p + q + r + t := by
  have h1 : (p + 256 * (q + 256 * (r + 256 * t))) / 256 = q + 256 * (r + 256 * t) := by omega
  rw [h1]
  have h2 : (p + 256 * (q + 256 * (r + 256 * t)) + (q + 256 * (r + 256 * t))) / 65536 = r + t + 256 * t := by omega
  rw [h2]
  refine ⟨by omega, by omega, ?_⟩
  rw [show (63 : Nat) = 2 ^ 6 - 1 from rfl, Nat.and_two_pow_sub_one_eq_mod]
  omega
theorem bcG (p q r t : Nat) (p1 : p % 16 ≤ 4) (p2 : p / 16 ≤ 4) (q1 : q % 16 ≤ 4) (q2 : q / 16 ≤ 4) (r1 : r % 16 ≤ 4) (r2 : r / 16 ≤ 4) (t1 : t % 16 ≤ 4) (t2 : t / 16 ≤ 4) : ((p + 256 * (q + 256 * (r + 256 * t))) + (p + 256 * (q + 256 * (r + 256 * t))) / 16) &&& 252645135 = bs3 p + 256 * (bs3 q + 256 * (bs3 r + 256 * bs3 t)) := by
  rw [show (252645135 : Nat) = 15 + 256 * (15 + 256 * (15 + 256 * 15)) from rfl]
  rw [dgs 4 _ (p + p / 16) ((q + 256 * (r + 256 * t)) + (q + 256 * (r + 256 * t)) / 16) 15 _ (by decide) (by decide) (by
    have : (q + 256 * (r + 256 * t)) % 16 ≤ 4 := by omega
    generalize q + 256 * (r + 256 * t) = R at *
    omega) (by
    generalize q + 256 * (r + 256 * t) = R at *
    omega)]
  rw [dgs 4 _ (q + q / 16) ((r + 256 * t) + (r + 256 * t) / 16) 15 _ (by decide) (by decide) (by
    have : (r + 256 * t) % 16 ≤ 4 := by omega
    generalize r + 256 * t = R at *
    omega) (by
    generalize r + 256 * t = R at *
    omega)]
  rw [dgs 4 _ (r + r / 16) (t + t / 16) 15 _ (by decide) (by decide) (by omega) (by omega)]
  unfold bs3
  rfl
theorem bcN (a b c d : Nat) (ha : a < 256) (hb : b < 256) (hc : c < 256) (hd : d < 256) (U : Nat) (hU : U = a + 256 * (b + 256 * (c + 256 * d))) :
    (U / 2 &&& 1431655765) ≤ U ∧ (let y1 := U - (U / 2 &&& 1431655765); let y2 := (y1 &&& 858993459) + (y1 / 4 &&& 858993459); let y3 := (y2 + y2 / 16) &&& 252645135
      y2 + y2 / 16 < 2 ^ 32 ∧ (y1 &&& 858993459) + (y1 / 4 &&& 858993459) < 2 ^ 32 ∧ y3 + y3 / 256 < 2 ^ 32 ∧ (y3 + y3 / 256) + (y3 + y3 / 256) / 65536 < 2 ^ 32 ∧ ((y3 + y3 / 256) + (y3 + y3 / 256) / 65536) &&& 63 = pp8 a + pp8 b + pp8 c + pp8 d) := by
  obtain ⟨a1, a2, a3, a4, a5, a6⟩ := bs1_ok a ha
  obtain ⟨b1, b2, b3, b4, b5, b6⟩ := bs1_ok b hb
  obtain ⟨c1, c2, c3, c4, c5, c6⟩ := bs1_ok c hc
  obtain ⟨d1, d2, d3, d4, d5, d6⟩ := bs1_ok d hd
  have hpa := pp8_le a
  have hpb := pp8_le b
  have hpc := pp8_le c
  have hpd := pp8_le d
  have s1 : U / 2 &&& 1431655765 = (a / 2 &&& 85) + 256 * ((b / 2 &&& 85) + 256 * ((c / 2 &&& 85) + 256 * (d / 2 &&& 85))) := by
    rw [show (1431655765 : Nat) = 85 + 256 * (85 + 256 * (85 + 256 * 85)) from rfl]
    rw [dgs 7 (U / 2) (a / 2) ((b + 256 * (c + 256 * d)) / 2) 85 _ (by decide) (by decide) (by omega) (by omega)]
    rw [dgs 7 ((b + 256 * (c + 256 * d)) / 2) (b / 2) ((c + 256 * d) / 2) 85 _ (by decide) (by decide) (by omega) (by omega)]
    rw [dgs 7 ((c + 256 * d) / 2) (c / 2) (d / 2) 85 _ (by decide) (by decide) (by omega) (by omega)]
  have g1 : U - (U / 2 &&& 1431655765) = bs1 a + 256 * (bs1 b + 256 * (bs1 c + 256 * bs1 d)) := by
    rw [s1]; unfold bs1; omega
  refine ⟨by rw [s1]; omega, ?_⟩
  simp only [g1]
  generalize bs1 a = p at *
  generalize bs1 b = q at *
  generalize bs1 c = r at *
  generalize bs1 d = t at *
  have s2 : (p + 256 * (q + 256 * (r + 256 * t))) &&& 858993459 = (p &&& 51) + 256 * ((q &&& 51) + 256 * ((r &&& 51) + 256 * (t &&& 51))) := by
    rw [show (858993459 : Nat) = 51 + 256 * (51 + 256 * (51 + 256 * 51)) from rfl]
    rw [dgs 8 _ p (q + 256 * (r + 256 * t)) 51 _ (by decide) (by decide) (by omega) (by omega)]
    rw [dgs 8 _ q (r + 256 * t) 51 _ (by decide) (by decide) (by omega) (by omega)]
    rw [dgs 8 _ r t 51 _ (by decide) (by decide) (by omega) (by omega)]
  have s3 : (p + 256 * (q + 256 * (r + 256 * t))) / 4 &&& 858993459 = (p / 4 &&& 51) + 256 * ((q / 4 &&& 51) + 256 * ((r / 4 &&& 51) + 256 * (t / 4 &&& 51))) := by
    rw [show (858993459 : Nat) = 51 + 256 * (51 + 256 * (51 + 256 * 51)) from rfl]
    rw [dgs 6 _ (p / 4) ((q + 256 * (r + 256 * t)) / 4) 51 _ (by decide) (by decide) (by omega) (by omega)]
    rw [dgs 6 _ (q / 4) ((r + 256 * t) / 4) 51 _ (by decide) (by decide) (by omega) (by omega)]
    rw [dgs 6 _ (r / 4) (t / 4) 51 _ (by decide) (by decide) (by omega) (by omega)]
  have g2 : ((p + 256 * (q + 256 * (r + 256 * t))) &&& 858993459) + ((p + 256 * (q + 256 * (r + 256 * t))) / 4 &&& 858993459) = bs2 p + 256 * (bs2 q + 256 * (bs2 r + 256 * bs2 t)) := by
    rw [s2, s3]; unfold bs2; omega
  simp only [g2]
  generalize bs2 p = p at *
  generalize bs2 q = q at *
  generalize bs2 r = r at *
  generalize bs2 t = t at *
  have g3 := bcG p q r t a4 a5 b4 b5 c4 c5 d4 d5
  rw [a6, b6, c6, d6] at g3
  simp only [g3]
  have hF := bcF _ _ _ _ hpa hpb hpc hpd
  exact ⟨by clear g3 hF; omega, by clear g3 hF; omega, hF.1, hF.2.1, hF.2.2⟩
theorem pc32_pp (x : Int32) : pc32 x = pp8 (un x % 256) + pp8 (un x / 256 % 256) + pp8 (un x / 65536 % 256) + pp8 (un x / 16777216) := by
  have hx := un_lt x
  have e : ∀ s, fb_ct (fun k => bt x (s + k)) 8 = pp8 (un x / 2 ^ s % 256) := fun s => by
    refine fb_ct_cong fun k hk => ?_
    rw [show (256 : Nat) = 2 ^ 8 from rfl, Nat.testBit_mod_two_pow, Nat.testBit_div_two_pow, bt_un, Nat.add_comm]
    simp [hk]
  unfold pc32
  rw [show (32 : Nat) = 8 + (8 + (8 + 8)) from rfl, fb_ct_split, fb_ct_split, fb_ct_split]
  have e0 := e 0
  have e8 := e 8
  have e16 := e 16
  have e24 := e 24
  simp only [Nat.zero_add, Nat.pow_zero, Nat.div_one] at e0
  rw [show (2 : Nat) ^ 8 = 256 from rfl] at e8
  rw [show (2 : Nat) ^ 16 = 65536 from rfl] at e16
  rw [show (2 : Nat) ^ 24 = 16777216 from rfl, show un x / 16777216 % 256 = un x / 16777216 by omega] at e24
  have f16 : fb_ct (fun k => bt x (8 + (8 + k))) 8 = fb_ct (fun k => bt x (16 + k)) 8 := fb_ct_cong fun k _ => by congr 1; omega
  have f24 : fb_ct (fun k => bt x (8 + (8 + (8 + k)))) 8 = fb_ct (fun k => bt x (24 + k)) 8 := fb_ct_cong fun k _ => by congr 1; omega
  have f0 : fb_ct (bt x) 8 = fb_ct (fun k => bt x k) 8 := rfl
  simp only [f16, f24, f0, e0, e8, e16, e24]
  omega
theorem un_k {n : Nat} (h : n < 2 ^ 31) : un (nI n) = n := by
  unfold un nI
  simp [Int32.toBitVec, Int32.ofNat]
  omega
abbrev ushr (x : Int32) (n : Nat) : Int32 := (x.toUInt32 >>> ((nI n).toUInt32 &&& Int32.toUInt32 31)).toInt32
theorem bc_all (x y1 y2 y3 y4 y5 : Int32) (h1 : y1 = x - (ushr x 1 &&& 1431655765)) (h2 : y2 = (y1 &&& 858993459) + (ushr y1 2 &&& 858993459)) (h3 : y3 = (y2 + ushr y2 4) &&& 252645135) (h4 : y4 = y3 + ushr y3 8) (h5 : y5 = y4 + ushr y4 16) : y5 &&& nI 63 = nI (pc32 x) := by
  have hx := un_lt x
  have hb := bcN (un x % 256) (un x / 256 % 256) (un x / 65536 % 256) (un x / 16777216) (by omega) (by omega) (by omega) (by omega) (un x) (by omega)
  simp only at hb
  obtain ⟨b1, b2, b3, b4, b5, b6⟩ := hb
  have k1 : un (1431655765 : Int32) = 1431655765 := rfl
  have k2 : un (858993459 : Int32) = 858993459 := rfl
  have k3 : un (252645135 : Int32) = 252645135 := rfl
  have e1 : un y1 = un x - (un x / 2 &&& 1431655765) := by
    rw [h1, un_sub (by rw [un_and, un_ushr x (by decide), k1]; exact b1), un_and, un_ushr x (by decide), k1]
  have e2 : un y2 = (un y1 &&& 858993459) + (un y1 / 4 &&& 858993459) := by
    have : un (y1 &&& 858993459) + un (ushr y1 2 &&& 858993459) = (un y1 &&& 858993459) + (un y1 / 4 &&& 858993459) := by
      rw [un_and, un_and, un_ushr y1 (by decide), k2]
    rw [h2, un_add (by rw [this, e1]; exact b3), this]
  have e3 : un y3 = (un y2 + un y2 / 16) &&& 252645135 := by
    have : un (y2 + ushr y2 4) = un y2 + un y2 / 16 := by
      rw [un_add (by rw [un_ushr y2 (by decide), e2, e1]; exact b2), un_ushr y2 (by decide)]
    rw [h3, un_and, this, k3]
  have e4 : un y4 = un y3 + un y3 / 256 := by
    rw [h4, un_add (by rw [un_ushr y3 (by decide), e3, e2, e1]; exact b4), un_ushr y3 (by decide)]
  have e5 : un y5 = un y4 + un y4 / 65536 := by
    rw [h5, un_add (by rw [un_ushr y4 (by decide), e4, e3, e2, e1]; exact b5), un_ushr y4 (by decide)]
  refine un_inj ?_
  rw [un_and, un_k (by decide), un_k (by have := pc32_le x; omega), e5, e4, e3, e2, e1, b6, pc32_pp]
end BC1
