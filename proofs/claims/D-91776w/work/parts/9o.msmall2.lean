/-! small nets: the reference's operation -/
section C9o
theorem ft_k {n d k : Nat} (hn : n < 7) : ftN n d k = ftN n d (min k 6) := funext fun v => fit_k hn
theorem smM_k {n d k : Nat} (hn : n < 7) : smM n d k = smM n d (min k 6) := by unfold smM; rw [ft_k hn]
theorem smK_k {n d k : Nat} (hn : n < 7) : smK n d k = smK n d (min k 6) := by unfold smK; rw [ft_k hn]
theorem smF_k {n d k : Nat} (hn : n < 7) : smF n d k = smF n d (min k 6) := by unfold smF; rw [ft_k hn]
theorem smM_le {n d k : Nat} (hn : n < 7) : smM n d k ≤ 32768 := Nat.le_trans (fb_ct_le _ _) (Nat.pow_le_pow_right (n := 2) (by decide) (p_3 n hn).1)
def smAt (n d k : Nat) : Nat := 8 * (9 * n + d) + min k 6
/-- what lies in the four tables at an entry -/
def smT (A : Nat → Nat → Int32) (i n d k : Nat) : Prop := A 54 i = nI 0 ∨ (A 54 i = nI (smM n d k + 1) ∧ A 55 i = nI (smK n d k) ∧ A 56 i = fwI (smF n d k) ∧ A 57 i = lsI (smF n d k))
theorem c_msmall_ok (F0 : Nat → Int32) (G : Nat → Int64) (A : Nat → Nat → Int32) (B : Nat → Nat → Int64) (n d k : Nat) (h1 : 1 ≤ n) (hn : n < 7) (hd1 : 1 ≤ d) (hd : d < 9) (hk : k < 2 ^ 31) (hT : smT A (smAt n d k) n d (min k 6)) : zCtr yX6_small cX6_small 5 (some .int) 4 0 0 [zr 1 0, zi (nI n), zi (nI d), zi (nI k)] [zH, zG F0 G A B] (fun r w => r = some (zi (nI (smM n d k))) ∧ ∃ F' A', w = [zH, zG F' G A' B] ∧ F' 0 = nI 0 ∧ F' 45 = nI 1 ∧ F' 46 = nI (smM n d k) ∧ F' 47 = nI (smK n d k) ∧ F' 48 = fwI (smF n d k) ∧ F' 49 = lsI (smF n d k) ∧ frm [0, 4, 5, 24, 25, 45, 46, 47, 48, 49] F0 F' ∧ frm [6, 23, 50, 51, 52, 53, 54, 55, 56, 57] A A' ∧ smT A' (smAt n d k) n d (min k 6) ∧ ∀ i, i ≠ smAt n d k → A' 54 i = A 54 i ∧ A' 55 i = A 55 i ∧ A' 56 i = A 56 i ∧ A' 57 i = A 57 i) zNx := by
  refine z_start (by decide) [some (zr 1 0), some (zi (nI n)), some (zi (nI d)), some (zi (nI k)), none] rfl (fun _ => Nat.le_of_ble_eq_true rfl) (fun _ => rfl) (fun X F E hno hin => ?_)
  have eM := smM_k (d := d) (k := k) hn
  have eK := smK_k (d := d) (k := k) hn
  have eF := smF_k (d := d) (k := k) hn
  have hMle := smM_le (d := d) (k := k) hn
  have fin : ∀ (F1 : Nat → Int32) (A1 : Nat → Nat → Int32), F1 0 = nI 0 → F1 45 = nI 1 → frm [0, 4, 5, 24, 25, 45, 46, 47, 48, 49] F0 F1 → frm [6, 23, 50, 51, 52, 53, 54, 55, 56, 57] A A1 → A1 54 (smAt n d k) = nI (smM n d k + 1) → A1 55 (smAt n d k) = nI (smK n d k) → A1 56 (smAt n d k) = fwI (smF n d k) → A1 57 (smAt n d k) = lsI (smF n d k) → (∀ i, i ≠ smAt n d k → A1 54 i = A 54 i ∧ A1 55 i = A 55 i ∧ A1 56 i = A 56 i ∧ A1 57 i = A 57 i) → Z X [some (zr 1 0), some (zi (nI n)), some (zi (nI d)), some (zi (nI k)), some (zi (nI (smAt n d k)))] [] [zH, zG F1 G A1 B] 0 0 136 := by
    intro F1 A1 q0 q45 hF hA a1 a2 a3 a4 ho
    have hb : smAt n d k < 504 := by unfold smAt; omega
    refine z_aload_n F dX6_small_136 rfl ?_
    refine z_aload_n F dX6_small_137 rfl ?_
    refine z_ma F rfl 54 rfl (Nat.le_of_ble_eq_true rfl) rfl q1534 dX6_small_138 ?_
    refine z_iload F dX6_small_141 rfl ?_
    refine z_ialdGN F rfl rfl (Nat.le_of_ble_eq_true rfl) (by omega) rfl dX6_small_143 ?_
    refine z_ieq (a1) ?_
    refine z_iconst F (nI 1) dX6_small_144 rfl ?_
    refine z_isubN F (by omega) dX6_small_145 ?_
    refine z_pmi F rfl 46 rfl (Nat.le_of_ble_eq_true rfl) rfl q1526 rfl rfl rfl dX6_small_146 ?_
    refine z_weq (w' := [_, _]) rfl ?_
    refine z_aload_n F dX6_small_149 rfl ?_
    refine z_aload_n F dX6_small_150 rfl ?_
    refine z_ma F rfl 55 rfl (Nat.le_of_ble_eq_true rfl) rfl q1535 dX6_small_151 ?_
    refine z_iload F dX6_small_154 rfl ?_
    refine z_ialdGN F rfl rfl (Nat.le_of_ble_eq_true rfl) (by omega) rfl dX6_small_156 ?_
    refine z_ieq (a2) ?_
    refine z_pmi F rfl 47 rfl (Nat.le_of_ble_eq_true rfl) rfl q1527 rfl rfl rfl dX6_small_157 ?_
    refine z_weq (w' := [_, _]) rfl ?_
    refine z_aload_n F dX6_small_160 rfl ?_
    refine z_aload_n F dX6_small_161 rfl ?_
    refine z_ma F rfl 56 rfl (Nat.le_of_ble_eq_true rfl) rfl q1536 dX6_small_162 ?_
    refine z_iload F dX6_small_165 rfl ?_
    refine z_ialdGN F rfl rfl (Nat.le_of_ble_eq_true rfl) (by omega) rfl dX6_small_167 ?_
    refine z_ieq a3 ?_
    refine z_pmi F rfl 48 rfl (Nat.le_of_ble_eq_true rfl) rfl q1528 rfl rfl rfl dX6_small_168 ?_
    refine z_weq (w' := [_, _]) rfl ?_
    refine z_aload_n F dX6_small_171 rfl ?_
    refine z_aload_n F dX6_small_172 rfl ?_
    refine z_ma F rfl 57 rfl (Nat.le_of_ble_eq_true rfl) rfl q1537 dX6_small_173 ?_
    refine z_iload F dX6_small_176 rfl ?_
    refine z_ialdGN F rfl rfl (Nat.le_of_ble_eq_true rfl) (by omega) rfl dX6_small_178 ?_
    refine z_ieq a4 ?_
    refine z_pmi F rfl 49 rfl (Nat.le_of_ble_eq_true rfl) rfl q1529 rfl rfl rfl dX6_small_179 ?_
    refine z_weq (w' := [_, _]) rfl ?_
    refine z_aload_n F dX6_small_182 rfl ?_
    refine z_mi F rfl 46 rfl (Nat.le_of_ble_eq_true rfl) rfl q1526 dX6_small_183 ?_
    exact z_iret F E rfl dX6_small_186 (by omega) (by omega) (⟨by
  show some (zi (nI (smM n d k + 1 - 1))) = _
  rw [Nat.add_sub_cancel], _, A1, rfl, q0, q45, rfl, rfl, rfl, rfl, frm_upd (frm_upd (frm_upd (frm_upd hF (by decide)) (by decide)) (by decide)) (by decide), hA, Or.inr ⟨by rw [← eM]; exact a1, by rw [← eK]; exact a2, by rw [← eF]; exact a3, by rw [← eF]; exact a4⟩, ho⟩)
  have J : ∀ (F1 : Nat → Int32) (at_ : Nat), at_ = smAt n d k → F1 0 = nI 0 → F1 45 = nI 1 → frm [0, 4, 5, 24, 25, 45, 46, 47, 48, 49] F0 F1 → Z X [some (zr 1 0), some (zi (nI n)), some (zi (nI d)), some (zi (nI k)), some (zi (nI at_))] [] [zH, zG F1 G A B] 0 0 73 := by
    intro F1 at_ e q0 q45 hF
    subst e
    have hb : smAt n d k < 504 := by unfold smAt; omega
    refine z_aload_n F dX6_small_73 rfl ?_
    refine z_ma F rfl 54 rfl (Nat.le_of_ble_eq_true rfl) rfl q1534 dX6_small_74 ?_
    refine z_iload F dX6_small_77 rfl ?_
    refine z_ialdGN F rfl rfl (Nat.le_of_ble_eq_true rfl) (by omega) rfl dX6_small_79 ?_
    refine z_if_ne F (tgt := 136) dX6_small_80 (by decide) (fun c_80 => ?_) (fun c_80 => ?_)
    · rcases hT with z | ⟨z1, z2, z3, z4⟩
      · exact absurd z c_80
      · exact fin F1 A q0 q45 hF frm.rf (by rw [eM]; exact z1) (by rw [eK]; exact z2) (by rw [eF]; exact z3) (by rw [eF]; exact z4) (fun i _ => ⟨rfl, rfl, rfl, rfl⟩)
    · refine z_aload_n F dX6_small_83 rfl ?_
      refine z_iload_n F dX6_small_84 rfl ?_
      refine z_iload_n F dX6_small_85 rfl ?_
      refine z_iload_n F dX6_small_86 rfl ?_
      refine z_callV F (c_mlooks F1 _ _ _ n d k h1 hn hd hk) 3 rfl (lw_V q1994 q1996 qs81 q117 q1997) (by decide +kernel) ⟨Nat.le_of_ble_eq_true rfl, Nat.le_of_ble_eq_true rfl⟩ ⟨by omega, by omega⟩ [0, 1] 2 ⟨rfl, rfl, rfl, ⟨Or.inl rfl, Or.inr rfl, trivial⟩⟩ (fun h => nomatch h) (Nat.le_of_ble_eq_true rfl) ⟨⟨Or.inr trivial, Or.inl rfl, trivial⟩, rfl, rfl, rfl, Nat.le_of_ble_eq_true rfl⟩ rfl zC6 (zat_G0 rfl) rfl dX6_small_87 (fun r_87 w_87 hp => ?_) (fun _ _ h => h.elim)
      obtain ⟨rfl, F2, A2, rfl, f2, a2, l1, l2, l3, l4⟩ := hp
      refine z_weq (w' := [zH, zG _ _ _ _]) rfl ?_
      refine z_seq (S' := []) rfl ?_
      refine z_aload_n F dX6_small_90 rfl ?_
      refine z_ma F rfl 54 rfl (Nat.le_of_ble_eq_true rfl) rfl q1534 dX6_small_91 ?_
      refine z_iload F dX6_small_94 rfl ?_
      refine z_aload_n F dX6_small_96 rfl ?_
      refine z_mi F rfl 46 rfl (Nat.le_of_ble_eq_true rfl) rfl q1526 dX6_small_97 ?_
      refine z_ieq (l1) ?_
      refine z_iconst F (nI 1) dX6_small_100 rfl ?_
      refine z_iaddN F dX6_small_101 ?_
      refine z_iastGN F rfl rfl (Nat.le_of_ble_eq_true rfl) (by omega) dX6_small_102 ?_
      refine z_weq (w' := [_, _]) rfl ?_
      refine z_aload_n F dX6_small_103 rfl ?_
      refine z_ma F rfl 55 rfl (Nat.le_of_ble_eq_true rfl) rfl q1535 dX6_small_104 ?_
      refine z_iload F dX6_small_107 rfl ?_
      refine z_aload_n F dX6_small_109 rfl ?_
      refine z_mi F rfl 47 rfl (Nat.le_of_ble_eq_true rfl) rfl q1527 dX6_small_110 ?_
      refine z_ieq (l2) ?_
      refine z_iastGN F rfl rfl (Nat.le_of_ble_eq_true rfl) (by omega) dX6_small_113 ?_
      refine z_weq (w' := [_, _]) rfl ?_
      refine z_aload_n F dX6_small_114 rfl ?_
      refine z_ma F rfl 56 rfl (Nat.le_of_ble_eq_true rfl) rfl q1536 dX6_small_115 ?_
      refine z_iload F dX6_small_118 rfl ?_
      refine z_aload_n F dX6_small_120 rfl ?_
      refine z_mi F rfl 48 rfl (Nat.le_of_ble_eq_true rfl) rfl q1528 dX6_small_121 ?_
      refine z_ieq l3 ?_
      refine z_iastGN F rfl rfl (Nat.le_of_ble_eq_true rfl) (by omega) dX6_small_124 ?_
      refine z_weq (w' := [_, _]) rfl ?_
      refine z_aload_n F dX6_small_125 rfl ?_
      refine z_ma F rfl 57 rfl (Nat.le_of_ble_eq_true rfl) rfl q1537 dX6_small_126 ?_
      refine z_iload F dX6_small_129 rfl ?_
      refine z_aload_n F dX6_small_131 rfl ?_
      refine z_mi F rfl 49 rfl (Nat.le_of_ble_eq_true rfl) rfl q1529 dX6_small_132 ?_
      refine z_ieq l4 ?_
      refine z_iastGN F rfl rfl (Nat.le_of_ble_eq_true rfl) (by omega) dX6_small_135 ?_
      refine z_weq (w' := [_, _]) rfl ?_
      have pt : ∀ (A9 : Nat → Nat → Int32) (K i : Nat) (v : Int32) (K2 i2 : Nat), K2 ≠ K → zup2 A9 K i v K2 i2 = A9 K2 i2 := fun A9 K i v K2 i2 h => by rw [zup2_pq, if_neg (fun z => h z.1)]
      have pe : ∀ (A9 : Nat → Nat → Int32) (K i : Nat) (v : Int32), zup2 A9 K i v K i = v := fun A9 K i v => by rw [zup2_pq, if_pos ⟨rfl, rfl⟩]
      have pn : ∀ (A9 : Nat → Nat → Int32) (K i : Nat) (v : Int32) (i2 : Nat), i2 ≠ i → zup2 A9 K i v K i2 = A9 K i2 := fun A9 K i v i2 h => by rw [zup2_pq, if_neg (fun z => h z.2)]
      refine fin F2 _ (by rw [f2.at 0 rfl]; exact q0) (by rw [f2.at 45 rfl]; exact q45) (hF.tr f2 (by decide) (by decide)) (frm_zup (frm_zup (frm_zup (frm_zup (a2.to (by decide)) (by decide)) (by decide)) (by decide)) (by decide)) ?_ ?_ ?_ ?_ (fun i hi => ⟨?_, ?_, ?_, ?_⟩)
      · rw [pt _ _ _ _ _ _ (by omega), pt _ _ _ _ _ _ (by omega), pt _ _ _ _ _ _ (by omega), pe]
      · rw [pt _ _ _ _ _ _ (by omega), pt _ _ _ _ _ _ (by omega), pe]
      · rw [pt _ _ _ _ _ _ (by omega), pe]
      · rw [pe]
      · rw [pt _ _ _ _ _ _ (by omega), pt _ _ _ _ _ _ (by omega), pt _ _ _ _ _ _ (by omega), pn _ _ _ _ _ hi, a2.at 54 rfl]
      · rw [pt _ _ _ _ _ _ (by omega), pt _ _ _ _ _ _ (by omega), pn _ _ _ _ _ hi, pt _ _ _ _ _ _ (by omega), a2.at 55 rfl]
      · rw [pt _ _ _ _ _ _ (by omega), pn _ _ _ _ _ hi, pt _ _ _ _ _ _ (by omega), pt _ _ _ _ _ _ (by omega), a2.at 56 rfl]
      · rw [pn _ _ _ _ _ hi, pt _ _ _ _ _ _ (by omega), pt _ _ _ _ _ _ (by omega), pt _ _ _ _ _ _ (by omega), a2.at 57 rfl]
  refine z_aload_n F dX6_small_0 rfl ?_
  refine z_iconst F (nI 0) dX6_small_1 rfl ?_
  refine z_pmi F rfl 0 rfl (Nat.le_of_ble_eq_true rfl) rfl q1480 rfl rfl rfl dX6_small_2 ?_
  refine z_weq (w' := [_, _]) rfl ?_
  refine z_aload_n F dX6_small_5 rfl ?_
  refine z_iload_n F dX6_small_6 rfl ?_
  refine z_iconst F (nI 1) dX6_small_7 rfl ?_
  refine z_bipush F (nI 6) dX6_small_8 rfl ?_
  refine z_callS F (c_within (nI n) (nI 1) (nI 6)) 3 rfl (lw_S q1717 q1718 q117 q1719) (by decide +kernel) ⟨Nat.le_of_ble_eq_true rfl, Nat.le_of_ble_eq_true rfl⟩ ⟨by omega, by omega⟩ [0] 2 ⟨rfl, rfl, rfl, ⟨Or.inl rfl, trivial⟩⟩ (fun h => nomatch h) (Nat.le_of_ble_eq_true rfl) ⟨⟨Or.inr trivial, Or.inr trivial, trivial⟩, rfl, rfl, rfl, Nat.le_of_ble_eq_true rfl⟩ rfl rfl dX6_small_10 (fun r_10 w_10 hp => ?_) (fun _ _ h => h.elim)
  obtain ⟨rfl, rfl⟩ := hp
  refine z_weq (w' := [zH, zG _ _ _ _]) rfl ?_
  refine z_seq (S' := zi _ :: _) rfl ?_
  refine z_if_eqB F (tgt := 34) dX6_small_13 (by decide) (fun c_13 => ?_) (fun c_13 => ?_)
  · rw [inB_nn h1 (by omega) (by omega)] at c_13; cases c_13
  · refine z_iload_n F dX6_small_16 rfl ?_
    refine z_iconst F (nI 1) dX6_small_17 rfl ?_
    refine z_bipush F (nI 8) dX6_small_18 rfl ?_
    refine z_callS F (c_within (nI d) (nI 1) (nI 8)) 3 rfl (lw_S q1717 q1718 q117 q1719) (by decide +kernel) ⟨Nat.le_of_ble_eq_true rfl, Nat.le_of_ble_eq_true rfl⟩ ⟨by omega, by omega⟩ [0] 2 ⟨rfl, rfl, rfl, ⟨Or.inl rfl, trivial⟩⟩ (fun h => nomatch h) (Nat.le_of_ble_eq_true rfl) ⟨⟨Or.inr trivial, Or.inr trivial, trivial⟩, rfl, rfl, rfl, Nat.le_of_ble_eq_true rfl⟩ rfl rfl dX6_small_20 (fun r_20 w_20 hp => ?_) (fun _ _ h => h.elim)
    obtain ⟨rfl, rfl⟩ := hp
    refine z_weq (w' := [zH, zG _ _ _ _]) rfl ?_
    refine z_seq (S' := zi _ :: _) rfl ?_
    refine z_if_eqB F (tgt := 34) dX6_small_23 (by decide) (fun c_23 => ?_) (fun c_23 => ?_)
    · rw [inB_nn hd1 (by omega) (by omega)] at c_23; cases c_23
    · refine z_iload_n F dX6_small_26 rfl ?_
      refine z_if_ltN F (by omega) (tgt := 34) dX6_small_27 (by decide) (fun c_27 => ?_) (fun c_27 => ?_)
      · exact absurd c_27 (by omega)
      · refine z_iconstB F true dX6_small_30 rfl ?_
        refine z_goto F (tgt := 35) dX6_small_31 (by decide) ?_
        refine z_iconst F (nI 1) dX6_small_35 rfl ?_
        refine z_callV F (c_right (upd F0 0 (nI 0)) _ _ _ true 1 rfl (by omega) (by omega)) 2 rfl (lw_V q1736 q1738 qs43 q117 q1739) (by decide +kernel) ⟨Nat.le_of_ble_eq_true rfl, Nat.le_of_ble_eq_true rfl⟩ ⟨by omega, by omega⟩ [0, 1] 2 ⟨rfl, rfl, rfl, ⟨Or.inl rfl, Or.inr rfl, trivial⟩⟩ (fun h => nomatch h) (Nat.le_of_ble_eq_true rfl) ⟨⟨Or.inr trivial, Or.inl rfl, trivial⟩, rfl, rfl, rfl, Nat.le_of_ble_eq_true rfl⟩ rfl zC6 (zat_G0 rfl) rfl dX6_small_36 (fun r_36 w_36 hp => ?_) (fun _ _ h => h.elim)
        obtain ⟨rfl, rfl⟩ := hp
        refine z_weq (w' := [zH, zG _ _ _ _]) rfl ?_
        refine z_seq (S' := zi _ :: _) rfl ?_
        refine z_if_neB F (tgt := 44) dX6_small_39 (by decide) (fun c_39 => ?_) (fun c_39 => ?_)
        · refine z_aload_n F dX6_small_44 rfl ?_
          refine z_iconst F (nI 1) dX6_small_45 rfl ?_
          refine z_pmi F rfl 45 rfl (Nat.le_of_ble_eq_true rfl) rfl q1525 rfl rfl rfl dX6_small_46 ?_
          refine z_weq (w' := [_, _]) rfl ?_
          refine z_bipush F (nI 8) dX6_small_49 rfl ?_
          refine z_bipush F (nI 9) dX6_small_51 rfl ?_
          refine z_iload_n F dX6_small_53 rfl ?_
          refine z_imulN F dX6_small_54 ?_
          refine z_iload_n F dX6_small_55 rfl ?_
          refine z_iaddN F dX6_small_56 ?_
          refine z_imulN F dX6_small_57 ?_
          refine z_iload_n F dX6_small_58 rfl ?_
          refine z_bipush F (nI 6) dX6_small_59 rfl ?_
          refine z_icmp_leN F (by omega) (by omega) (tgt := 69) dX6_small_61 (by decide) (fun c_61 => ?_) (fun c_61 => ?_)
          · refine z_iload_n F dX6_small_69 rfl ?_
            refine z_iaddN F dX6_small_70 ?_
            refine z_istore F dX6_small_71 (Nat.le_of_ble_eq_true rfl) ?_
            refine z_leq (L' := [_, _, _, _, _]) rfl ?_
            refine J _ _ (by unfold smAt; omega) rfl rfl (frm_upd (frm_upd frm.rf (by decide)) (by decide))
          · refine z_bipush F (nI 6) dX6_small_64 rfl ?_
            refine z_goto F (tgt := 70) dX6_small_66 (by decide) ?_
            refine z_iaddN F dX6_small_70 ?_
            refine z_istore F dX6_small_71 (Nat.le_of_ble_eq_true rfl) ?_
            refine z_leq (L' := [_, _, _, _, _]) rfl ?_
            refine J _ _ (by unfold smAt; omega) rfl rfl (frm_upd (frm_upd frm.rf (by decide)) (by decide))
        · cases c_39
theorem c_msmall_bad (F0 : Nat → Int32) (G : Nat → Int64) (A : Nat → Nat → Int32) (B : Nat → Nat → Int64) (n d k : Int32) (h : (inB n (nI 1) (nI 6) && (inB d (nI 1) (nI 8) && !decide (k < 0))) = false) : zCtr yX6_small cX6_small 5 (some .int) 4 0 0 [zr 1 0, zi n, zi d, zi k] [zH, zG F0 G A B] (fun r w => r = some (zi (nI 0)) ∧ w = [zH, zG (upd F0 0 (nI 1)) G A B]) zNx := by
  refine z_start (by decide) [some (zr 1 0), some (zi n), some (zi d), some (zi k), none] rfl (fun _ => Nat.le_of_ble_eq_true rfl) (fun _ => rfl) (fun X F E hno hin => ?_)
  refine z_aload_n F dX6_small_0 rfl ?_
  refine z_iconst F (nI 0) dX6_small_1 rfl ?_
  refine z_pmi F rfl 0 rfl (Nat.le_of_ble_eq_true rfl) rfl q1480 rfl rfl rfl dX6_small_2 ?_
  refine z_weq (w' := [_, _]) rfl ?_
  refine z_aload_n F dX6_small_5 rfl ?_
  refine z_iload_n F dX6_small_6 rfl ?_
  refine z_iconst F (nI 1) dX6_small_7 rfl ?_
  refine z_bipush F (nI 6) dX6_small_8 rfl ?_
  refine z_callS F (c_within n (nI 1) (nI 6)) 3 rfl (lw_S q1717 q1718 q117 q1719) (by decide +kernel) ⟨Nat.le_of_ble_eq_true rfl, Nat.le_of_ble_eq_true rfl⟩ ⟨by omega, by omega⟩ [0] 2 ⟨rfl, rfl, rfl, ⟨Or.inl rfl, trivial⟩⟩ (fun h => nomatch h) (Nat.le_of_ble_eq_true rfl) ⟨⟨Or.inr trivial, Or.inr trivial, trivial⟩, rfl, rfl, rfl, Nat.le_of_ble_eq_true rfl⟩ rfl rfl dX6_small_10 (fun r_10 w_10 hp => ?_) (fun _ _ h => h.elim)
  obtain ⟨rfl, rfl⟩ := hp
  refine z_weq (w' := [zH, zG _ _ _ _]) rfl ?_
  refine z_seq (S' := zi _ :: _) rfl ?_
  refine z_if_eqB F (tgt := 34) dX6_small_13 (by decide) (fun c_13 => ?_) (fun c_13 => ?_)
  · refine z_iconstB F false dX6_small_34 rfl ?_
    refine z_iconst F (nI 1) dX6_small_35 rfl ?_
    refine z_callV F (c_right (upd F0 0 (nI 0)) _ _ _ false 1 rfl (by omega) (by omega)) 2 rfl (lw_V q1736 q1738 qs43 q117 q1739) (by decide +kernel) ⟨Nat.le_of_ble_eq_true rfl, Nat.le_of_ble_eq_true rfl⟩ ⟨by omega, by omega⟩ [0, 1] 2 ⟨rfl, rfl, rfl, ⟨Or.inl rfl, Or.inr rfl, trivial⟩⟩ (fun h => nomatch h) (Nat.le_of_ble_eq_true rfl) ⟨⟨Or.inr trivial, Or.inl rfl, trivial⟩, rfl, rfl, rfl, Nat.le_of_ble_eq_true rfl⟩ rfl zC6 (zat_G0 rfl) rfl dX6_small_36 (fun r_36 w_36 hp => ?_) (fun _ _ h => h.elim)
    obtain ⟨rfl, rfl⟩ := hp
    refine z_weq (w' := [zH, zG _ _ _ _]) rfl ?_
    refine z_seq (S' := zi _ :: _) rfl ?_
    refine z_if_neB F (tgt := 44) dX6_small_39 (by decide) (fun c_39 => ?_) (fun c_39 => ?_)
    · cases c_39
    · refine z_iconst F (nI 0) dX6_small_42 rfl ?_
      exact z_iret F E rfl dX6_small_43 (by omega) (by omega) (⟨rfl, by rw [if_neg (by decide), upd_upd]⟩)
  · refine z_iload_n F dX6_small_16 rfl ?_
    refine z_iconst F (nI 1) dX6_small_17 rfl ?_
    refine z_bipush F (nI 8) dX6_small_18 rfl ?_
    refine z_callS F (c_within d (nI 1) (nI 8)) 3 rfl (lw_S q1717 q1718 q117 q1719) (by decide +kernel) ⟨Nat.le_of_ble_eq_true rfl, Nat.le_of_ble_eq_true rfl⟩ ⟨by omega, by omega⟩ [0] 2 ⟨rfl, rfl, rfl, ⟨Or.inl rfl, trivial⟩⟩ (fun h => nomatch h) (Nat.le_of_ble_eq_true rfl) ⟨⟨Or.inr trivial, Or.inr trivial, trivial⟩, rfl, rfl, rfl, Nat.le_of_ble_eq_true rfl⟩ rfl rfl dX6_small_20 (fun r_20 w_20 hp => ?_) (fun _ _ h => h.elim)
    obtain ⟨rfl, rfl⟩ := hp
    refine z_weq (w' := [zH, zG _ _ _ _]) rfl ?_
    refine z_seq (S' := zi _ :: _) rfl ?_
    refine z_if_eqB F (tgt := 34) dX6_small_23 (by decide) (fun c_23 => ?_) (fun c_23 => ?_)
    · refine z_iconstB F false dX6_small_34 rfl ?_
      refine z_iconst F (nI 1) dX6_small_35 rfl ?_
      refine z_callV F (c_right (upd F0 0 (nI 0)) _ _ _ false 1 rfl (by omega) (by omega)) 2 rfl (lw_V q1736 q1738 qs43 q117 q1739) (by decide +kernel) ⟨Nat.le_of_ble_eq_true rfl, Nat.le_of_ble_eq_true rfl⟩ ⟨by omega, by omega⟩ [0, 1] 2 ⟨rfl, rfl, rfl, ⟨Or.inl rfl, Or.inr rfl, trivial⟩⟩ (fun h => nomatch h) (Nat.le_of_ble_eq_true rfl) ⟨⟨Or.inr trivial, Or.inl rfl, trivial⟩, rfl, rfl, rfl, Nat.le_of_ble_eq_true rfl⟩ rfl zC6 (zat_G0 rfl) rfl dX6_small_36 (fun r_36 w_36 hp => ?_) (fun _ _ h => h.elim)
      obtain ⟨rfl, rfl⟩ := hp
      refine z_weq (w' := [zH, zG _ _ _ _]) rfl ?_
      refine z_seq (S' := zi _ :: _) rfl ?_
      refine z_if_neB F (tgt := 44) dX6_small_39 (by decide) (fun c_39 => ?_) (fun c_39 => ?_)
      · cases c_39
      · refine z_iconst F (nI 0) dX6_small_42 rfl ?_
        exact z_iret F E rfl dX6_small_43 (by omega) (by omega) (⟨rfl, by rw [if_neg (by decide), upd_upd]⟩)
    · refine z_iload_n F dX6_small_26 rfl ?_
      refine z_if_lt F (tgt := 34) dX6_small_27 (by decide) (fun c_27 => ?_) (fun c_27 => ?_)
      · refine z_iconstB F false dX6_small_34 rfl ?_
        refine z_iconst F (nI 1) dX6_small_35 rfl ?_
        refine z_callV F (c_right (upd F0 0 (nI 0)) _ _ _ false 1 rfl (by omega) (by omega)) 2 rfl (lw_V q1736 q1738 qs43 q117 q1739) (by decide +kernel) ⟨Nat.le_of_ble_eq_true rfl, Nat.le_of_ble_eq_true rfl⟩ ⟨by omega, by omega⟩ [0, 1] 2 ⟨rfl, rfl, rfl, ⟨Or.inl rfl, Or.inr rfl, trivial⟩⟩ (fun h => nomatch h) (Nat.le_of_ble_eq_true rfl) ⟨⟨Or.inr trivial, Or.inl rfl, trivial⟩, rfl, rfl, rfl, Nat.le_of_ble_eq_true rfl⟩ rfl zC6 (zat_G0 rfl) rfl dX6_small_36 (fun r_36 w_36 hp => ?_) (fun _ _ h => h.elim)
        obtain ⟨rfl, rfl⟩ := hp
        refine z_weq (w' := [zH, zG _ _ _ _]) rfl ?_
        refine z_seq (S' := zi _ :: _) rfl ?_
        refine z_if_neB F (tgt := 44) dX6_small_39 (by decide) (fun c_39 => ?_) (fun c_39 => ?_)
        · cases c_39
        · refine z_iconst F (nI 0) dX6_small_42 rfl ?_
          exact z_iret F E rfl dX6_small_43 (by omega) (by omega) (⟨rfl, by rw [if_neg (by decide), upd_upd]⟩)
      · rw [c_13, c_23, decide_eq_false c_27] at h; cases h
end C9o
