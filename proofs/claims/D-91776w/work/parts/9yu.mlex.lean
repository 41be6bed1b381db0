/-! read: the reference's tokens -/
section C9yu
theorem lN_bv (n : Nat) : (lN n).toBitVec = BitVec.ofNat 64 n := rfl
theorem lN_nat {n : Nat} (h : n < 2 ^ 64) : (lN n).toBitVec.toNat = n := by rw [lN_bv, BitVec.toNat_ofNat, Nat.mod_eq_of_lt h]
theorem wsh {w x : Nat} (hw : w < 2 ^ 40) (hx : x < 32) : (lN w <<< ((nI 5).toInt64 &&& 63)) ||| (nI x).toInt64 = lN (w * 32 + x) := by
  have e1 : (nI 5).toInt64 &&& 63 = 5 := by decide +kernel
  have e2 : (nI x).toInt64 = lN x := (by decide +kernel : ∀ x, x < 32 → (nI x).toInt64 = lN x) x hx
  rw [e1, e2]
  refine Int64.toBitVec_inj.mp ?_
  have e3 : (5 : Int64).toBitVec.smod 64 = 5#64 := by decide +kernel
  rw [Int64.toBitVec_or, Int64.toBitVec_shiftLeft, e3, lN_bv, lN_bv, lN_bv]
  refine BitVec.eq_of_toNat_eq ?_
  rw [BitVec.toNat_or, BitVec.shiftLeft_eq', BitVec.toNat_shiftLeft, BitVec.toNat_ofNat, BitVec.toNat_ofNat, BitVec.toNat_ofNat, BitVec.toNat_ofNat]
  rw [Nat.mod_eq_of_lt (show w < 2 ^ 64 by omega), Nat.mod_eq_of_lt (show x < 2 ^ 64 by omega), Nat.mod_eq_of_lt (show 5 < 2 ^ 64 by decide), Nat.mod_eq_of_lt (show w * 32 + x < 2 ^ 64 by omega)]
  have e4 : w <<< 5 = w * 32 := by rw [Nat.shiftLeft_eq]
  rw [Nat.mod_eq_of_lt (by rw [e4]; omega), ← Nat.shiftLeft_add_eq_or_of_lt (by omega), e4]
theorem frmL2 {l : List Nat} {f g : Nat → Int64} {i : Nat} {x : Int64} (a : frm l f g) (h : i ∈ l) : frm l f (vp_updL g i x) := fun j hj => by
  have : j ≠ i := fun q => hj (q ▸ h)
  unfold vp_updL
  simp only [this, if_false]; exact a j hj
def vv (tb : Nat → Nat) (z b : Nat) : Nat := if kd tb z b = 2 then rv tb z b else 0
abbrev Tk (tb : Nat → Nat) (z : Nat) (F : Nat → Int32) (G : Nat → Int64) (b : Nat) : Prop := F 11 = nI z ∧ F 12 = nI (en tb z b) ∧ F 13 = nI (kd tb z b) ∧ F 14 = nI b ∧ F 15 = nI (en tb z b - b) ∧ F 16 = nI (vv tb z b) ∧ (kd tb z b = 1 → G 17 = lN (wcd tb b (en tb z b - b)))
theorem c_mbyteAt (F0 : Nat → Int32) (G : Nat → Int64) (A : Nat → Nat → Int32) (B : Nat → Nat → Int64) (tb : Nat → Nat) (z k : Nat) (hz : z ≤ 400) (hk : k ≤ 400) (h11 : F0 11 = nI z) (ht : ∀ i, i < z → A 7 i = nI (tb i)) : zCtr yX6_byteAt cX6_byteAt 2 (some .int) 0 0 0 [zr 1 0, zi (nI k)] [zH, zG F0 G A B] (fun r w => r = some (zi (nI (if k < z then tb k else 0))) ∧ w = [zH, zG F0 G A B]) zNx := by
  refine z_start (by decide) [some (zr 1 0), some (zi (nI k))] rfl (fun _ => Nat.le_of_ble_eq_true rfl) (fun _ => rfl) (fun X F E hno hin => ?_)
  refine z_iload_n F dX6_byteAt_0 rfl ?_
  refine z_aload_n F dX6_byteAt_1 rfl ?_
  refine z_mi F rfl 11 rfl (Nat.le_of_ble_eq_true rfl) rfl q1491 dX6_byteAt_2 ?_
  refine z_ieq (h11) ?_
  refine z_icmp_geN F (by omega) (by omega) (tgt := 17) dX6_byteAt_5 (by decide) (fun c_5 => ?_) (fun c_5 => ?_)
  · refine z_iconst F (nI 0) dX6_byteAt_17 rfl ?_
    exact z_iret F E rfl dX6_byteAt_18 (by omega) (by omega) (⟨by rw [if_neg (by omega)], rfl⟩)
  · refine z_aload_n F dX6_byteAt_8 rfl ?_
    refine z_ma F rfl 7 rfl (Nat.le_of_ble_eq_true rfl) rfl q1487 dX6_byteAt_9 ?_
    refine z_iload_n F dX6_byteAt_12 rfl ?_
    refine z_ialdGN F rfl rfl (Nat.le_of_ble_eq_true rfl) (by omega) rfl dX6_byteAt_13 ?_
    refine z_ieq (ht k (by omega)) ?_
    refine z_goto F (tgt := 18) dX6_byteAt_14 (by decide) ?_
    exact z_iret F E rfl dX6_byteAt_18 (by omega) (by omega) (⟨by rw [if_pos (by omega)], rfl⟩)
theorem c_misL (c : Nat) (hc : c < 256) : zCtr yX6_isLetter cX6_isLetter 1 (some .boolean) 0 0 0 [zi (nI c)] [zH] (fun r w => r = some (zi (bI (isL c))) ∧ w = [zH]) zNx := by
  refine z_start (by decide) [some (zi (nI c))] rfl (fun _ => Nat.le_of_ble_eq_true rfl) (fun _ => rfl) (fun X F E hno hin => ?_)
  refine z_iload_n F dX6_isLetter_0 rfl ?_
  refine z_bipush F (nI 97) dX6_isLetter_1 rfl ?_
  refine z_icmp_ltN F (by omega) (by omega) (tgt := 16) dX6_isLetter_3 (by decide) (fun c_3 => ?_) (fun c_3 => ?_)
  · refine z_iconstB F false dX6_isLetter_16 rfl ?_
    exact z_zret F E rfl (bI_nar _) dX6_isLetter_17 (by omega) (by omega) (⟨by rw [isL, decide_eq_false (by omega)], rfl⟩)
  · refine z_iload_n F dX6_isLetter_6 rfl ?_
    refine z_bipush F (nI 122) dX6_isLetter_7 rfl ?_
    refine z_icmp_gtN F (by omega) (by omega) (tgt := 16) dX6_isLetter_9 (by decide) (fun c_9 => ?_) (fun c_9 => ?_)
    · refine z_iconstB F false dX6_isLetter_16 rfl ?_
      exact z_zret F E rfl (bI_nar _) dX6_isLetter_17 (by omega) (by omega) (⟨by rw [isL, decide_eq_false (by omega)], rfl⟩)
    · refine z_iconstB F true dX6_isLetter_12 rfl ?_
      refine z_goto F (tgt := 17) dX6_isLetter_13 (by decide) ?_
      exact z_zret F E rfl (bI_nar _) dX6_isLetter_17 (by omega) (by omega) (⟨by rw [isL, decide_eq_true (by omega)], rfl⟩)
theorem c_misD (c : Nat) (hc : c < 256) : zCtr yX6_isDigit cX6_isDigit 1 (some .boolean) 0 0 0 [zi (nI c)] [zH] (fun r w => r = some (zi (bI (isD c))) ∧ w = [zH]) zNx := by
  refine z_start (by decide) [some (zi (nI c))] rfl (fun _ => Nat.le_of_ble_eq_true rfl) (fun _ => rfl) (fun X F E hno hin => ?_)
  refine z_iload_n F dX6_isDigit_0 rfl ?_
  refine z_bipush F (nI 48) dX6_isDigit_1 rfl ?_
  refine z_icmp_ltN F (by omega) (by omega) (tgt := 16) dX6_isDigit_3 (by decide) (fun c_3 => ?_) (fun c_3 => ?_)
  · refine z_iconstB F false dX6_isDigit_16 rfl ?_
    exact z_zret F E rfl (bI_nar _) dX6_isDigit_17 (by omega) (by omega) (⟨by rw [isD, decide_eq_false (by omega)], rfl⟩)
  · refine z_iload_n F dX6_isDigit_6 rfl ?_
    refine z_bipush F (nI 57) dX6_isDigit_7 rfl ?_
    refine z_icmp_gtN F (by omega) (by omega) (tgt := 16) dX6_isDigit_9 (by decide) (fun c_9 => ?_) (fun c_9 => ?_)
    · refine z_iconstB F false dX6_isDigit_16 rfl ?_
      exact z_zret F E rfl (bI_nar _) dX6_isDigit_17 (by omega) (by omega) (⟨by rw [isD, decide_eq_false (by omega)], rfl⟩)
    · refine z_iconstB F true dX6_isDigit_12 rfl ?_
      refine z_goto F (tgt := 17) dX6_isDigit_13 (by decide) ?_
      exact z_zret F E rfl (bI_nar _) dX6_isDigit_17 (by omega) (by omega) (⟨by rw [isD, decide_eq_true (by omega)], rfl⟩)
theorem c_mrdGo (F0 : Nat → Int32) (G0 : Nat → Int64) (A : Nat → Nat → Int32) (B : Nat → Nat → Int64) (tb : Nat → Nat) (z p : Nat) (hz : z ≤ 400) (hp : p ≤ z) (htb : ∀ i, tb i < 256) (h11 : F0 11 = nI z) (h12 : F0 12 = nI p) (ht : ∀ i, i < z → A 7 i = nI (tb i)) : zCtr yX6_goes cX6_goes 2 none 1 0 0 [zr 1 0] [zH, zG F0 G0 A B] (fun r w => r = none ∧ ∃ F' G', w = [zH, zG F' G' A B] ∧ Tk tb z F' G' (sk tb z p) ∧ frm [12, 13, 14, 15, 16] F0 F' ∧ frm [17] G0 G') zNx := by
  refine z_start (by decide) [some (zr 1 0), none] rfl (fun _ => Nat.le_of_ble_eq_true rfl) (fun _ => rfl) (fun X F E hno hin => ?_)
  have hb1 := sk_ge tb z p
  have hb2 := hb1.2 hp
  generalize hb : sk tb z p = b at hb1 hb2 E
  have he1 := en_ge tb z b
  have he2 := he1.2 hb2
  have hkd := kd_lt tb z b
  have hvv : vv tb z b < 1000 := by
    unfold vv
    split
    · rename_i q
      exact rvd_999 (tk_D q).2.2.2
    · omega
  have fin : ∀ (F1 : Nat → Int32) (G1 : Nat → Int64), F1 11 = nI z → F1 12 = nI (en tb z b) → F1 13 = nI (kd tb z b) → F1 14 = nI b → F1 16 = nI (vv tb z b) → (kd tb z b = 1 → G1 17 = lN (wcd tb b (en tb z b - b))) → frm [12, 13, 14, 15, 16] F0 F1 → frm [17] G0 G1 → Z X [some (zr 1 0), none] [] [zH, zG F1 G1 A B] 0 0 278 := by
    intro F1 G1 g11 g12 g13 g14 g16 gw gF gG
    refine z_aload_n F dX6_goes_278 rfl ?_
    refine z_aload_n F dX6_goes_279 rfl ?_
    refine z_mi F rfl 12 rfl (Nat.le_of_ble_eq_true rfl) rfl q1492 dX6_goes_280 ?_
    refine z_ieq (g12) ?_
    refine z_aload_n F dX6_goes_283 rfl ?_
    refine z_mi F rfl 14 rfl (Nat.le_of_ble_eq_true rfl) rfl q1494 dX6_goes_284 ?_
    refine z_ieq (g14) ?_
    refine z_isubN F (by omega) dX6_goes_287 ?_
    refine z_pmi F rfl 15 rfl (Nat.le_of_ble_eq_true rfl) rfl q1495 rfl rfl rfl dX6_goes_288 ?_
    refine z_weq (w' := [_, _]) rfl ?_
    exact z_vret F E rfl dX6_goes_291 (by omega) (by omega) (⟨rfl, _, G1, rfl, ⟨g11, g12, g13, g14, rfl, g16, gw⟩, frm_upd gF (by decide), gG⟩)
  have let_ : isL (tb b) = true → b < z → ∀ (u q : Nat) (F1 : Nat → Int32) (G1 : Nat → Int64), z - q < u → b ≤ q → q ≤ z → rn (fun k => isL (tb k)) z q = en tb z b → (∀ k, k < q - b → isL (tb (b + k)) = true) → F1 11 = nI z → F1 12 = nI q → F1 14 = nI b → F1 16 = nI 0 → G1 17 = lN (wcd tb b (q - b)) → frm [12, 13, 14, 15, 16] F0 F1 → frm [17] G0 G1 → Z X [some (zr 1 0), none] [] [zH, zG F1 G1 A B] 0 0 103 := by
    intro hL hbz u
    induction u with
    | zero => intro q F1 G1 hu; omega
    | succ u ih =>
      intro q F1 G1 hu hbq hqz hrn hall_ g11 g12 g14 g16 gw gF gG
      have hk1 : kd tb z b = 1 := by unfold kd; rw [if_neg (by omega), if_pos hL]
      have hc256 : (if q < z then tb q else 0) < 256 := by
        split
        · exact htb q
        · omega
      have hwl : wcd tb b (q - b) < 2 ^ 35 := Nat.lt_of_lt_of_le (wcd_lt tb b (q - b) hall_) (by
        have : 32 ^ min (q - b) 7 ≤ 32 ^ 7 := Nat.pow_le_pow_right (by decide) (by omega)
        omega)
      have go : isL (tb q) = true → q < z → ∀ (G2 : Nat → Int64), G2 17 = lN (wcd tb b (q + 1 - b)) → frm [17] G0 G2 → Z X [some (zr 1 0), none] [] [zH, zG F1 G2 A B] 0 0 154 := by
        intro hl hq G2 gw2 gG2
        refine z_aload_n F dX6_goes_154 rfl ?_
        refine z_dup F dX6_goes_155 rfl ?_
        refine z_mi F rfl 12 rfl (Nat.le_of_ble_eq_true rfl) rfl q1492 dX6_goes_156 ?_
        refine z_ieq (g12) ?_
        refine z_iconst F (nI 1) dX6_goes_159 rfl ?_
        refine z_iaddN F dX6_goes_160 ?_
        refine z_pmi F rfl 12 rfl (Nat.le_of_ble_eq_true rfl) rfl q1492 rfl rfl rfl dX6_goes_161 ?_
        refine z_weq (w' := [_, _]) rfl ?_
        refine z_goto F (tgt := 103) dX6_goes_164 (by decide) ?_
        refine ih (q + 1) _ G2 (by omega) (by omega) (by omega) ?_ (fun k hk => ?_) g11 rfl g14 g16 gw2 (frm_upd gF (by decide)) gG2
        · rw [← hrn]; exact (rn_step (p := fun k => isL (tb k)) hq hl).symm
        · by_cases e : k = q - b
          · rw [e, show b + (q - b) = q by omega]; exact hl
          · exact hall_ k (by omega)
      refine z_aload_n F dX6_goes_103 rfl ?_
      refine z_aload_n F dX6_goes_104 rfl ?_
      refine z_mi F rfl 12 rfl (Nat.le_of_ble_eq_true rfl) rfl q1492 dX6_goes_105 ?_
      refine z_ieq (g12) ?_
      refine z_callV F (c_mbyteAt F1 G1 A B tb z q hz (by omega) g11 ht) 1 rfl (lw_V q1783 q1785 qs51 q117 q1786) (by decide +kernel) ⟨Nat.le_of_ble_eq_true rfl, Nat.le_of_ble_eq_true rfl⟩ ⟨by omega, by omega⟩ [0, 1] 2 ⟨rfl, rfl, rfl, ⟨Or.inl rfl, Or.inr rfl, trivial⟩⟩ (fun h => nomatch h) (Nat.le_of_ble_eq_true rfl) ⟨⟨Or.inr trivial, Or.inl rfl, trivial⟩, rfl, rfl, rfl, Nat.le_of_ble_eq_true rfl⟩ rfl zC6 (zat_G0 rfl) rfl dX6_goes_108 (fun r_108 w_108 hp => ?_) (fun _ _ h => h.elim)
      obtain ⟨rfl, rfl⟩ := hp
      refine z_weq (w' := [zH, zG _ _ _ _]) rfl ?_
      refine z_seq (S' := zi _ :: _) rfl ?_
      refine z_callS F (c_misL _ hc256) 1 rfl (lw_S q1787 q1788 q117 q1789) (by decide +kernel) ⟨Nat.le_of_ble_eq_true rfl, Nat.le_of_ble_eq_true rfl⟩ ⟨by omega, by omega⟩ [0] 2 ⟨rfl, rfl, rfl, ⟨Or.inl rfl, trivial⟩⟩ (fun h => nomatch h) (Nat.le_of_ble_eq_true rfl) ⟨⟨Or.inr trivial, Or.inr trivial, trivial⟩, rfl, rfl, rfl, Nat.le_of_ble_eq_true rfl⟩ rfl rfl dX6_goes_111 (fun r_111 w_111 hp => ?_) (fun _ _ h => h.elim)
      obtain ⟨rfl, rfl⟩ := hp
      refine z_weq (w' := [zH, zG _ _ _ _]) rfl ?_
      refine z_seq (S' := zi _ :: _) rfl ?_
      refine z_if_eqB F (tgt := 167) dX6_goes_114 (by decide) (fun c_114 => ?_) (fun c_114 => ?_)
      · refine z_aload_n F dX6_goes_167 rfl ?_
        refine z_iconst F (nI 1) dX6_goes_168 rfl ?_
        refine z_pmi F rfl 13 rfl (Nat.le_of_ble_eq_true rfl) rfl q1493 rfl rfl rfl dX6_goes_169 ?_
        refine z_weq (w' := [_, _]) rfl ?_
        refine z_goto F (tgt := 278) dX6_goes_172 (by decide) ?_
        have hend : ¬ (q < z ∧ isL (tb q) = true) := fun w => by
          rw [if_pos w.1, w.2] at c_114; cases c_114
        have eq_ : q = en tb z b := by rw [← hrn]; exact (rn_stop (p := fun k => isL (tb k)) hend).symm
        refine fin _ G1 g11 (by rw [← eq_]; exact g12) (by rw [hk1]; rfl) g14 (by rw [vv, if_neg (by omega)]; exact g16) (fun _ => by rw [← eq_]; exact gw) (frm_upd gF (by decide)) gG
      · have hq : q < z := Nat.lt_of_not_le fun w => by
          rw [if_neg (by omega)] at c_114; exact absurd c_114 (by decide)
        have hl : isL (tb q) = true := by rw [if_pos hq] at c_114; exact c_114
        have hl2 : 97 ≤ tb q ∧ tb q ≤ 122 := by unfold isL at hl; rw [decide_eq_true_eq] at hl; exact hl
        refine z_aload_n F dX6_goes_117 rfl ?_
        refine z_mi F rfl 12 rfl (Nat.le_of_ble_eq_true rfl) rfl q1492 dX6_goes_118 ?_
        refine z_ieq (g12) ?_
        refine z_aload_n F dX6_goes_121 rfl ?_
        refine z_mi F rfl 14 rfl (Nat.le_of_ble_eq_true rfl) rfl q1494 dX6_goes_122 ?_
        refine z_ieq (g14) ?_
        refine z_isubN F (by omega) dX6_goes_125 ?_
        refine z_bipush F (nI 7) dX6_goes_126 rfl ?_
        refine z_icmp_geN F (by omega) (by omega) (tgt := 154) dX6_goes_128 (by decide) (fun c_128 => ?_) (fun c_128 => ?_)
        · exact go hl hq G1 (by
            rw [gw, show q + 1 - b = (q - b) + 1 by omega, wcd, if_neg (by omega)]) gG
        · refine z_aload_n F dX6_goes_131 rfl ?_
          refine z_aload_n F dX6_goes_132 rfl ?_
          refine z_ml F rfl 17 rfl (Nat.le_of_ble_eq_true rfl) rfl q1497 dX6_goes_133 ?_
          refine z_iconst F (nI 5) dX6_goes_136 rfl ?_
          refine z_lshl F dX6_goes_137 ?_
          refine z_aload_n F dX6_goes_138 rfl ?_
          refine z_aload_n F dX6_goes_139 rfl ?_
          refine z_mi F rfl 12 rfl (Nat.le_of_ble_eq_true rfl) rfl q1492 dX6_goes_140 ?_
          refine z_ieq (g12) ?_
          refine z_callV F (c_mbyteAt F1 G1 A B tb z q hz (by omega) g11 ht) 1 rfl (lw_V q1783 q1785 qs51 q117 q1786) (by decide +kernel) ⟨Nat.le_of_ble_eq_true rfl, Nat.le_of_ble_eq_true rfl⟩ ⟨by omega, by omega⟩ [0, 1] 2 ⟨rfl, rfl, rfl, ⟨Or.inl rfl, Or.inr rfl, trivial⟩⟩ (fun h => nomatch h) (Nat.le_of_ble_eq_true rfl) ⟨⟨Or.inr trivial, Or.inl rfl, trivial⟩, rfl, rfl, rfl, Nat.le_of_ble_eq_true rfl⟩ rfl zC6 (zat_G0 rfl) rfl dX6_goes_143 (fun r_143 w_143 hp => ?_) (fun _ _ h => h.elim)
          obtain ⟨rfl, rfl⟩ := hp
          rw [if_pos hq]
          refine z_weq (w' := [zH, zG _ _ _ _]) rfl ?_
          refine z_seq (S' := zi _ :: _) rfl ?_
          refine z_bipush F (nI 96) dX6_goes_146 rfl ?_
          refine z_isubN F (by omega) dX6_goes_148 ?_
          refine z_i2l F dX6_goes_149 ?_
          refine z_lor F dX6_goes_150 ?_
          refine z_pml F rfl 17 rfl (Nat.le_of_ble_eq_true rfl) rfl q1497 rfl rfl rfl dX6_goes_151 ?_
          refine z_weq (w' := [_, _]) rfl ?_
          refine go hl hq _ ?_ (frmL2 gG (by decide))
          show (_ : Int64) = _
          rw [show q + 1 - b = (q - b) + 1 by omega, wcd, if_pos (by omega), show b + (q - b) = q by omega, ← wsh (by omega) (by omega), ← gw]
          rfl
  have dig_ : isL (tb b) = false → isD (tb b) = true → b < z → ∀ (u q : Nat) (F1 : Nat → Int32) (G1 : Nat → Int64), z - q < u → b ≤ q → q ≤ z → rn (fun k => isD (tb k)) z q = en tb z b → (∀ k, k < q - b → isD (tb (b + k)) = true) → F1 11 = nI z → F1 12 = nI q → F1 14 = nI b → F1 16 = nI (rvd tb b (q - b)) → frm [12, 13, 14, 15, 16] F0 F1 → frm [17] G0 G1 → Z X [some (zr 1 0), none] [] [zH, zG F1 G1 A B] 0 0 182 := by
    intro hL hD hbz u
    induction u with
    | zero => intro q F1 G1 hu; omega
    | succ u ih =>
      intro q F1 G1 hu hbq hqz hrn hall_ g11 g12 g14 g16 gF gG
      have hk2 : kd tb z b = 2 := by unfold kd; rw [if_neg (by omega), if_neg (by rw [hL]; decide), if_pos hD]
      have hc256 : (if q < z then tb q else 0) < 256 := by
        split
        · exact htb q
        · omega
      have hwl := rvd_999 hall_
      have go : isD (tb q) = true → q < z → ∀ (F2 : Nat → Int32), F2 11 = nI z → F2 12 = nI q → F2 14 = nI b → F2 16 = nI (rvd tb b (q + 1 - b)) → frm [12, 13, 14, 15, 16] F0 F2 → Z X [some (zr 1 0), none] [] [zH, zG F2 G1 A B] 0 0 232 := by
        intro hl hq F2 k11 k12 k14 k16 kF
        refine z_aload_n F dX6_goes_232 rfl ?_
        refine z_dup F dX6_goes_233 rfl ?_
        refine z_mi F rfl 12 rfl (Nat.le_of_ble_eq_true rfl) rfl q1492 dX6_goes_234 ?_
        refine z_ieq (k12) ?_
        refine z_iconst F (nI 1) dX6_goes_237 rfl ?_
        refine z_iaddN F dX6_goes_238 ?_
        refine z_pmi F rfl 12 rfl (Nat.le_of_ble_eq_true rfl) rfl q1492 rfl rfl rfl dX6_goes_239 ?_
        refine z_weq (w' := [_, _]) rfl ?_
        refine z_goto F (tgt := 182) dX6_goes_242 (by decide) ?_
        refine ih (q + 1) _ G1 (by omega) (by omega) (by omega) ?_ (fun k hk => ?_) k11 rfl k14 k16 (frm_upd kF (by decide)) gG
        · rw [← hrn]; exact (rn_step (p := fun k => isD (tb k)) hq hl).symm
        · by_cases e : k = q - b
          · rw [e, show b + (q - b) = q by omega]; exact hl
          · exact hall_ k (by omega)
      refine z_aload_n F dX6_goes_182 rfl ?_
      refine z_aload_n F dX6_goes_183 rfl ?_
      refine z_mi F rfl 12 rfl (Nat.le_of_ble_eq_true rfl) rfl q1492 dX6_goes_184 ?_
      refine z_ieq (g12) ?_
      refine z_callV F (c_mbyteAt F1 G1 A B tb z q hz (by omega) g11 ht) 1 rfl (lw_V q1783 q1785 qs51 q117 q1786) (by decide +kernel) ⟨Nat.le_of_ble_eq_true rfl, Nat.le_of_ble_eq_true rfl⟩ ⟨by omega, by omega⟩ [0, 1] 2 ⟨rfl, rfl, rfl, ⟨Or.inl rfl, Or.inr rfl, trivial⟩⟩ (fun h => nomatch h) (Nat.le_of_ble_eq_true rfl) ⟨⟨Or.inr trivial, Or.inl rfl, trivial⟩, rfl, rfl, rfl, Nat.le_of_ble_eq_true rfl⟩ rfl zC6 (zat_G0 rfl) rfl dX6_goes_187 (fun r_187 w_187 hp => ?_) (fun _ _ h => h.elim)
      obtain ⟨rfl, rfl⟩ := hp
      refine z_weq (w' := [zH, zG _ _ _ _]) rfl ?_
      refine z_seq (S' := zi _ :: _) rfl ?_
      refine z_callS F (c_misD _ hc256) 1 rfl (lw_S q1790 q1791 q117 q1792) (by decide +kernel) ⟨Nat.le_of_ble_eq_true rfl, Nat.le_of_ble_eq_true rfl⟩ ⟨by omega, by omega⟩ [0] 2 ⟨rfl, rfl, rfl, ⟨Or.inl rfl, trivial⟩⟩ (fun h => nomatch h) (Nat.le_of_ble_eq_true rfl) ⟨⟨Or.inr trivial, Or.inr trivial, trivial⟩, rfl, rfl, rfl, Nat.le_of_ble_eq_true rfl⟩ rfl rfl dX6_goes_190 (fun r_190 w_190 hp => ?_) (fun _ _ h => h.elim)
      obtain ⟨rfl, rfl⟩ := hp
      refine z_weq (w' := [zH, zG _ _ _ _]) rfl ?_
      refine z_seq (S' := zi _ :: _) rfl ?_
      refine z_if_eqB F (tgt := 245) dX6_goes_193 (by decide) (fun c_193 => ?_) (fun c_193 => ?_)
      · refine z_aload_n F dX6_goes_245 rfl ?_
        refine z_iconst F (nI 2) dX6_goes_246 rfl ?_
        refine z_pmi F rfl 13 rfl (Nat.le_of_ble_eq_true rfl) rfl q1493 rfl rfl rfl dX6_goes_247 ?_
        refine z_weq (w' := [_, _]) rfl ?_
        refine z_goto F (tgt := 278) dX6_goes_250 (by decide) ?_
        have hend : ¬ (q < z ∧ isD (tb q) = true) := fun w => by
          rw [if_pos w.1, w.2] at c_193; cases c_193
        have eq_ : q = en tb z b := by rw [← hrn]; exact (rn_stop (p := fun k => isD (tb k)) hend).symm
        refine fin _ G1 g11 (by rw [← eq_]; exact g12) (by rw [hk2]; rfl) g14 (by rw [vv, if_pos hk2, rv, ← eq_]; exact g16) (fun w => by omega) (frm_upd gF (by decide)) gG
      · have hq : q < z := Nat.lt_of_not_le fun w => by
          rw [if_neg (by omega)] at c_193; exact absurd c_193 (by decide)
        have hl : isD (tb q) = true := by rw [if_pos hq] at c_193; exact c_193
        have hl2 : 48 ≤ tb q ∧ tb q ≤ 57 := by unfold isD at hl; rw [decide_eq_true_eq] at hl; exact hl
        refine z_aload_n F dX6_goes_196 rfl ?_
        refine z_mi F rfl 12 rfl (Nat.le_of_ble_eq_true rfl) rfl q1492 dX6_goes_197 ?_
        refine z_ieq (g12) ?_
        refine z_aload_n F dX6_goes_200 rfl ?_
        refine z_mi F rfl 14 rfl (Nat.le_of_ble_eq_true rfl) rfl q1494 dX6_goes_201 ?_
        refine z_ieq (g14) ?_
        refine z_isubN F (by omega) dX6_goes_204 ?_
        refine z_iconst F (nI 3) dX6_goes_205 rfl ?_
        refine z_icmp_geN F (by omega) (by omega) (tgt := 232) dX6_goes_206 (by decide) (fun c_206 => ?_) (fun c_206 => ?_)
        · exact go hl hq F1 g11 g12 g14 (by
            rw [g16, show q + 1 - b = (q - b) + 1 by omega, rvd, if_neg (by omega)]) gF
        · refine z_aload_n F dX6_goes_209 rfl ?_
          refine z_bipush F (nI 10) dX6_goes_210 rfl ?_
          refine z_aload_n F dX6_goes_212 rfl ?_
          refine z_mi F rfl 16 rfl (Nat.le_of_ble_eq_true rfl) rfl q1496 dX6_goes_213 ?_
          refine z_ieq (g16) ?_
          refine z_imulN F dX6_goes_216 ?_
          refine z_aload_n F dX6_goes_217 rfl ?_
          refine z_aload_n F dX6_goes_218 rfl ?_
          refine z_mi F rfl 12 rfl (Nat.le_of_ble_eq_true rfl) rfl q1492 dX6_goes_219 ?_
          refine z_ieq (g12) ?_
          refine z_callV F (c_mbyteAt F1 G1 A B tb z q hz (by omega) g11 ht) 1 rfl (lw_V q1783 q1785 qs51 q117 q1786) (by decide +kernel) ⟨Nat.le_of_ble_eq_true rfl, Nat.le_of_ble_eq_true rfl⟩ ⟨by omega, by omega⟩ [0, 1] 2 ⟨rfl, rfl, rfl, ⟨Or.inl rfl, Or.inr rfl, trivial⟩⟩ (fun h => nomatch h) (Nat.le_of_ble_eq_true rfl) ⟨⟨Or.inr trivial, Or.inl rfl, trivial⟩, rfl, rfl, rfl, Nat.le_of_ble_eq_true rfl⟩ rfl zC6 (zat_G0 rfl) rfl dX6_goes_222 (fun r_222 w_222 hp => ?_) (fun _ _ h => h.elim)
          obtain ⟨rfl, rfl⟩ := hp
          rw [if_pos hq]
          refine z_weq (w' := [zH, zG _ _ _ _]) rfl ?_
          refine z_seq (S' := zi _ :: _) rfl ?_
          refine z_iaddN F dX6_goes_225 ?_
          refine z_bipush F (nI 48) dX6_goes_226 rfl ?_
          refine z_isubN F (by omega) dX6_goes_228 ?_
          refine z_pmi F rfl 16 rfl (Nat.le_of_ble_eq_true rfl) rfl q1496 rfl rfl rfl dX6_goes_229 ?_
          refine z_weq (w' := [_, _]) rfl ?_
          refine go hl hq _ g11 g12 g14 ?_ (frm_upd gF (by decide))
          show nI _ = _
          rw [show q + 1 - b = (q - b) + 1 by omega, rvd, if_pos (by omega), show b + (q - b) = q by omega]
          exact congrArg nI (by omega)
  have at50 : ∀ (F1 : Nat → Int32), F1 11 = nI z → F1 12 = nI b → frm [12, 13, 14, 15, 16] F0 F1 → Z X [some (zr 1 0), none] [] [zH, zG F1 G0 A B] 0 0 50 := by
    intro F1 g11 g12 gF
    have hc256 : (if b < z then tb b else 0) < 256 := by
      split
      · exact htb b
      · omega
    refine z_aload_n F dX6_goes_50 rfl ?_
    refine z_aload_n F dX6_goes_51 rfl ?_
    refine z_mi F rfl 12 rfl (Nat.le_of_ble_eq_true rfl) rfl q1492 dX6_goes_52 ?_
    refine z_ieq (g12) ?_
    refine z_pmi F rfl 14 rfl (Nat.le_of_ble_eq_true rfl) rfl q1494 rfl rfl rfl dX6_goes_55 ?_
    refine z_weq (w' := [_, _]) rfl ?_
    refine z_aload_n F dX6_goes_58 rfl ?_
    refine z_lconst F 0 dX6_goes_59 rfl ?_
    refine z_pml F rfl 17 rfl (Nat.le_of_ble_eq_true rfl) rfl q1497 rfl rfl rfl dX6_goes_60 ?_
    refine z_weq (w' := [_, _]) rfl ?_
    refine z_aload_n F dX6_goes_63 rfl ?_
    refine z_iconst F (nI 0) dX6_goes_64 rfl ?_
    refine z_pmi F rfl 16 rfl (Nat.le_of_ble_eq_true rfl) rfl q1496 rfl rfl rfl dX6_goes_65 ?_
    refine z_weq (w' := [_, _]) rfl ?_
    refine z_aload_n F dX6_goes_68 rfl ?_
    refine z_aload_n F dX6_goes_69 rfl ?_
    refine z_mi F rfl 12 rfl (Nat.le_of_ble_eq_true rfl) rfl q1492 dX6_goes_70 ?_
    refine z_ieq (g12) ?_
    refine z_callV F (c_mbyteAt (upd (upd F1 14 (nI b)) 16 (nI 0)) (vp_updL G0 17 0) A B tb z b hz (by omega) g11 ht) 1 rfl (lw_V q1783 q1785 qs51 q117 q1786) (by decide +kernel) ⟨Nat.le_of_ble_eq_true rfl, Nat.le_of_ble_eq_true rfl⟩ ⟨by omega, by omega⟩ [0, 1] 2 ⟨rfl, rfl, rfl, ⟨Or.inl rfl, Or.inr rfl, trivial⟩⟩ (fun h => nomatch h) (Nat.le_of_ble_eq_true rfl) ⟨⟨Or.inr trivial, Or.inl rfl, trivial⟩, rfl, rfl, rfl, Nat.le_of_ble_eq_true rfl⟩ rfl zC6 (zat_G0 rfl) rfl dX6_goes_73 (fun r_73 w_73 hp => ?_) (fun _ _ h => h.elim)
    obtain ⟨rfl, rfl⟩ := hp
    refine z_weq (w' := [zH, zG _ _ _ _]) rfl ?_
    refine z_seq (S' := zi _ :: _) rfl ?_
    refine z_istore_n F dX6_goes_76 (Nat.le_of_ble_eq_true rfl) ?_
    refine z_leq (L' := [_, _]) rfl ?_
    refine z_aload_n F dX6_goes_77 rfl ?_
    refine z_mi F rfl 12 rfl (Nat.le_of_ble_eq_true rfl) rfl q1492 dX6_goes_78 ?_
    refine z_ieq (g12) ?_
    refine z_aload_n F dX6_goes_81 rfl ?_
    refine z_mi F rfl 11 rfl (Nat.le_of_ble_eq_true rfl) rfl q1491 dX6_goes_82 ?_
    refine z_ieq (g11) ?_
    refine z_icmp_ltN F (by omega) (by omega) (tgt := 96) dX6_goes_85 (by decide) (fun c_85 => ?_) (fun c_85 => ?_)
    · rw [if_pos c_85] at hc256
      rw [if_pos c_85]
      refine z_iload_n F dX6_goes_96 rfl ?_
      refine z_callS F (c_misL _ hc256) 1 rfl (lw_S q1787 q1788 q117 q1789) (by decide +kernel) ⟨Nat.le_of_ble_eq_true rfl, Nat.le_of_ble_eq_true rfl⟩ ⟨by omega, by omega⟩ [0] 2 ⟨rfl, rfl, rfl, ⟨Or.inl rfl, trivial⟩⟩ (fun h => nomatch h) (Nat.le_of_ble_eq_true rfl) ⟨⟨Or.inr trivial, Or.inr trivial, trivial⟩, rfl, rfl, rfl, Nat.le_of_ble_eq_true rfl⟩ rfl rfl dX6_goes_97 (fun r_97 w_97 hp => ?_) (fun _ _ h => h.elim)
      obtain ⟨rfl, rfl⟩ := hp
      refine z_weq (w' := [zH, zG _ _ _ _]) rfl ?_
      refine z_seq (S' := zi _ :: _) rfl ?_
      refine z_if_eqB F (tgt := 175) dX6_goes_100 (by decide) (fun c_100 => ?_) (fun c_100 => ?_)
      · refine z_iload_n F dX6_goes_175 rfl ?_
        refine z_callS F (c_misD _ hc256) 1 rfl (lw_S q1790 q1791 q117 q1792) (by decide +kernel) ⟨Nat.le_of_ble_eq_true rfl, Nat.le_of_ble_eq_true rfl⟩ ⟨by omega, by omega⟩ [0] 2 ⟨rfl, rfl, rfl, ⟨Or.inl rfl, trivial⟩⟩ (fun h => nomatch h) (Nat.le_of_ble_eq_true rfl) ⟨⟨Or.inr trivial, Or.inr trivial, trivial⟩, rfl, rfl, rfl, Nat.le_of_ble_eq_true rfl⟩ rfl rfl dX6_goes_176 (fun r_176 w_176 hp => ?_) (fun _ _ h => h.elim)
        obtain ⟨rfl, rfl⟩ := hp
        refine z_weq (w' := [zH, zG _ _ _ _]) rfl ?_
        refine z_seq (S' := zi _ :: _) rfl ?_
        refine z_if_eqB F (tgt := 253) dX6_goes_179 (by decide) (fun c_179 => ?_) (fun c_179 => ?_)
        · have e1 : en tb z b = b + 1 := by unfold en; rw [if_neg (by omega), if_neg (by rw [c_100]; decide), if_neg (by rw [c_179]; decide)]
          refine z_aload_n F dX6_goes_253 rfl ?_
          refine z_dup F dX6_goes_254 rfl ?_
          refine z_mi F rfl 12 rfl (Nat.le_of_ble_eq_true rfl) rfl q1492 dX6_goes_255 ?_
          refine z_ieq (g12) ?_
          refine z_iconst F (nI 1) dX6_goes_258 rfl ?_
          refine z_iaddN F dX6_goes_259 ?_
          refine z_pmi F rfl 12 rfl (Nat.le_of_ble_eq_true rfl) rfl q1492 rfl rfl rfl dX6_goes_260 ?_
          refine z_weq (w' := [_, _]) rfl ?_
          refine z_aload_n F dX6_goes_263 rfl ?_
          refine z_iload_n F dX6_goes_264 rfl ?_
          refine z_bipush F (nI 59) dX6_goes_265 rfl ?_
          refine z_icmp_neN F (by omega) (by omega) (tgt := 274) dX6_goes_267 (by decide) (fun c_267 => ?_) (fun c_267 => ?_)
          · refine z_iconst F (nI 4) dX6_goes_274 rfl ?_
            refine z_pmi F rfl 13 rfl (Nat.le_of_ble_eq_true rfl) rfl q1493 rfl rfl rfl dX6_goes_275 ?_
            refine z_weq (w' := [_, _]) rfl ?_
            have e2 : kd tb z b = 4 := by unfold kd; rw [if_neg (by omega), if_neg (by rw [c_100]; decide), if_neg (by rw [c_179]; decide), if_neg c_267]
            refine z_loc _ ?_ (fin _ _ g11 (by rw [e1]; rfl) (by rw [e2]; rfl) rfl (by rw [vv, if_neg (by omega)]; rfl) (fun w => by omega) (frm_upd (frm_upd (frm_upd (frm_upd gF (by decide)) (by decide)) (by decide)) (by decide)) (frmL2 frm.rf (by decide)))
            exact ⟨rfl, trivial⟩
          · refine z_iconst F (nI 3) dX6_goes_270 rfl ?_
            refine z_goto F (tgt := 275) dX6_goes_271 (by decide) ?_
            refine z_pmi F rfl 13 rfl (Nat.le_of_ble_eq_true rfl) rfl q1493 rfl rfl rfl dX6_goes_275 ?_
            refine z_weq (w' := [_, _]) rfl ?_
            have e2 : kd tb z b = 3 := by unfold kd; rw [if_neg (by omega), if_neg (by rw [c_100]; decide), if_neg (by rw [c_179]; decide), if_pos c_267]
            refine z_loc _ ?_ (fin _ _ g11 (by rw [e1]; rfl) (by rw [e2]; rfl) rfl (by rw [vv, if_neg (by omega)]; rfl) (fun w => by omega) (frm_upd (frm_upd (frm_upd (frm_upd gF (by decide)) (by decide)) (by decide)) (by decide)) (frmL2 frm.rf (by decide)))
            exact ⟨rfl, trivial⟩
        · have hen : rn (fun k => isD (tb k)) z b = en tb z b := by unfold en; rw [if_neg (by omega), if_neg (by rw [c_100]; decide), if_pos c_179]
          refine z_loc _ ?_ (dig_ c_100 c_179 c_85 (z + 1) b _ _ (by omega) (by omega) (by omega) hen (fun k hk => absurd hk (by omega)) g11 g12 rfl (by rw [Nat.sub_self]; rfl) (frm_upd (frm_upd gF (by decide)) (by decide)) (frmL2 frm.rf (by decide)))
          exact ⟨rfl, trivial⟩
      · have hen : rn (fun k => isL (tb k)) z b = en tb z b := by unfold en; rw [if_neg (by omega), if_pos c_100]
        refine z_loc _ ?_ (let_ c_100 c_85 (z + 1) b _ _ (by omega) (by omega) (by omega) hen (fun k hk => absurd hk (by omega)) g11 g12 rfl rfl (by rw [Nat.sub_self]; rfl) (frm_upd (frm_upd gF (by decide)) (by decide)) (frmL2 frm.rf (by decide)))
        exact ⟨rfl, trivial⟩
    · refine z_aload_n F dX6_goes_88 rfl ?_
      refine z_iconst F (nI 0) dX6_goes_89 rfl ?_
      refine z_pmi F rfl 13 rfl (Nat.le_of_ble_eq_true rfl) rfl q1493 rfl rfl rfl dX6_goes_90 ?_
      refine z_weq (w' := [_, _]) rfl ?_
      refine z_goto F (tgt := 278) dX6_goes_93 (by decide) ?_
      have e1 : en tb z b = b := by unfold en; rw [if_pos (by omega)]
      have e2 : kd tb z b = 0 := by unfold kd; rw [if_pos (by omega)]
      refine z_loc _ ?_ (fin _ _ g11 (by rw [e1]; exact g12) (by rw [e2]; rfl) rfl (by rw [vv, if_neg (by omega)]; rfl) (fun w => by omega) (frm_upd (frm_upd (frm_upd gF (by decide)) (by decide)) (by decide)) (frmL2 frm.rf (by decide)))
      exact ⟨rfl, trivial⟩
  have spc : ∀ (u q : Nat) (F1 : Nat → Int32), z - q < u → q ≤ z → rn (fun k => isS (tb k)) z q = b → F1 11 = nI z → F1 12 = nI q → frm [12, 13, 14, 15, 16] F0 F1 → Z X [some (zr 1 0), none] [] [zH, zG F1 G0 A B] 0 0 0 := by
    intro u
    induction u with
    | zero => intro q F1 hu; omega
    | succ u ih =>
      intro q F1 hu hqz hrn g11 g12 gF
      have stop_ : ¬ (q < z ∧ isS (tb q) = true) → q = b := fun w => by rw [← hrn]; exact (rn_stop (p := fun k => isS (tb k)) w).symm
      have nxt : q < z → isS (tb q) = true → Z X [some (zr 1 0), none] [] [zH, zG F1 G0 A B] 0 0 37 := by
        intro hq hs
        refine z_aload_n F dX6_goes_37 rfl ?_
        refine z_dup F dX6_goes_38 rfl ?_
        refine z_mi F rfl 12 rfl (Nat.le_of_ble_eq_true rfl) rfl q1492 dX6_goes_39 ?_
        refine z_ieq (g12) ?_
        refine z_iconst F (nI 1) dX6_goes_42 rfl ?_
        refine z_iaddN F dX6_goes_43 ?_
        refine z_pmi F rfl 12 rfl (Nat.le_of_ble_eq_true rfl) rfl q1492 rfl rfl rfl dX6_goes_44 ?_
        refine z_weq (w' := [_, _]) rfl ?_
        refine z_goto F (tgt := 0) dX6_goes_47 (by decide) ?_
        exact ih (q + 1) _ (by omega) (by omega) (by rw [← hrn]; exact (rn_step (p := fun k => isS (tb k)) hq hs).symm) g11 rfl (frm_upd gF (by decide))
      refine z_aload_n F dX6_goes_0 rfl ?_
      refine z_mi F rfl 12 rfl (Nat.le_of_ble_eq_true rfl) rfl q1492 dX6_goes_1 ?_
      refine z_ieq (g12) ?_
      refine z_aload_n F dX6_goes_4 rfl ?_
      refine z_mi F rfl 11 rfl (Nat.le_of_ble_eq_true rfl) rfl q1491 dX6_goes_5 ?_
      refine z_ieq (g11) ?_
      refine z_icmp_geN F (by omega) (by omega) (tgt := 50) dX6_goes_8 (by decide) (fun c_8 => ?_) (fun c_8 => ?_)
      · exact at50 F1 g11 (by rw [← stop_ (fun w => by omega)]; exact g12) gF
      · refine z_aload_n F dX6_goes_11 rfl ?_
        refine z_aload_n F dX6_goes_12 rfl ?_
        refine z_mi F rfl 12 rfl (Nat.le_of_ble_eq_true rfl) rfl q1492 dX6_goes_13 ?_
        refine z_ieq (g12) ?_
        refine z_callV F (c_mbyteAt F1 G0 A B tb z q hz (by omega) g11 ht) 1 rfl (lw_V q1783 q1785 qs51 q117 q1786) (by decide +kernel) ⟨Nat.le_of_ble_eq_true rfl, Nat.le_of_ble_eq_true rfl⟩ ⟨by omega, by omega⟩ [0, 1] 2 ⟨rfl, rfl, rfl, ⟨Or.inl rfl, Or.inr rfl, trivial⟩⟩ (fun h => nomatch h) (Nat.le_of_ble_eq_true rfl) ⟨⟨Or.inr trivial, Or.inl rfl, trivial⟩, rfl, rfl, rfl, Nat.le_of_ble_eq_true rfl⟩ rfl zC6 (zat_G0 rfl) rfl dX6_goes_16 (fun r_16 w_16 hp => ?_) (fun _ _ h => h.elim)
        obtain ⟨rfl, rfl⟩ := hp
        rw [if_pos (show q < z by omega)]
        refine z_weq (w' := [zH, zG _ _ _ _]) rfl ?_
        refine z_seq (S' := zi _ :: _) rfl ?_
        refine z_bipush F (nI 32) dX6_goes_19 rfl ?_
        refine z_icmp_eqN F (Nat.lt_trans (htb q) (by decide)) (by decide) (tgt := 37) dX6_goes_21 (by decide) (fun c_21 => ?_) (fun c_21 => ?_)
        · exact nxt (by omega) (by unfold isS; rw [c_21]; rfl)
        · refine z_aload_n F dX6_goes_24 rfl ?_
          refine z_aload_n F dX6_goes_25 rfl ?_
          refine z_mi F rfl 12 rfl (Nat.le_of_ble_eq_true rfl) rfl q1492 dX6_goes_26 ?_
          refine z_ieq (g12) ?_
          refine z_callV F (c_mbyteAt F1 G0 A B tb z q hz (by omega) g11 ht) 1 rfl (lw_V q1783 q1785 qs51 q117 q1786) (by decide +kernel) ⟨Nat.le_of_ble_eq_true rfl, Nat.le_of_ble_eq_true rfl⟩ ⟨by omega, by omega⟩ [0, 1] 2 ⟨rfl, rfl, rfl, ⟨Or.inl rfl, Or.inr rfl, trivial⟩⟩ (fun h => nomatch h) (Nat.le_of_ble_eq_true rfl) ⟨⟨Or.inr trivial, Or.inl rfl, trivial⟩, rfl, rfl, rfl, Nat.le_of_ble_eq_true rfl⟩ rfl zC6 (zat_G0 rfl) rfl dX6_goes_29 (fun r_29 w_29 hp => ?_) (fun _ _ h => h.elim)
          obtain ⟨rfl, rfl⟩ := hp
          rw [if_pos (show q < z by omega)]
          refine z_weq (w' := [zH, zG _ _ _ _]) rfl ?_
          refine z_seq (S' := zi _ :: _) rfl ?_
          refine z_bipush F (nI 10) dX6_goes_32 rfl ?_
          refine z_icmp_neN F (Nat.lt_trans (htb q) (by decide)) (by decide) (tgt := 50) dX6_goes_34 (by decide) (fun c_34 => ?_) (fun c_34 => ?_)
          · have hns : ¬ (q < z ∧ isS (tb q) = true) := fun w => by
              have := w.2
              unfold isS at this
              rw [decide_eq_false c_21, decide_eq_false c_34] at this
              cases this
            exact at50 F1 g11 (by rw [← stop_ hns]; exact g12) gF
          · exact nxt (by omega) (by unfold isS; rw [c_34]; rfl)
  exact spc (z + 1) p F0 (by omega) hp hb h11 h12 frm.rf
end C9yu
