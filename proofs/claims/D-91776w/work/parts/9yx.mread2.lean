/-! read: the reference's operation -/
section C9yx
theorem RS_cong {tb : Nat → Nat} {z e b : Nat} {F F' : Nat → Int32} {G : Nat → Int64} (h : RS tb z F G e b) (m : frm [4, 5] F F') : RS tb z F' G e b :=
  ⟨⟨(m.at 11 rfl).trans h.1.1, (m.at 12 rfl).trans h.1.2.1, (m.at 13 rfl).trans h.1.2.2.1, (m.at 14 rfl).trans h.1.2.2.2.1, (m.at 15 rfl).trans h.1.2.2.2.2.1, (m.at 16 rfl).trans h.1.2.2.2.2.2.1, h.1.2.2.2.2.2.2⟩, (m.at 9 rfl).trans h.2.1, fun w => (m.at 10 rfl).trans (h.2.2.1 w), fun w => (m.at 10 rfl).trans (h.2.2.2 w)⟩
theorem kwR_is {tb : Nat → Nat} {z b i : Nat} (hi : i < 7) : kwR tb z b = nI i ↔ isWb tb z b i = true := by
  unfold kwR
  cases h : kwI tb z b with
  | none =>
    rw [kwI_none h hi]
    constructor
    · intro e; exact absurd e ((by decide : ∀ i, i < 7 → ¬ (-1 : Int32) = nI i) i hi)
    · intro e; cases e
  | some j =>
    rw [kwI_b h hi, decide_eq_true_eq]
    have hj := (kwI_some.mp h).1
    constructor
    · intro e; exact ((by decide : ∀ j, j < 7 → ∀ i, i < 7 → nI j = nI i → i = j) j hj i hi e)
    · intro e; rw [e]; rfl
abbrev RF : List Nat := [0, 4, 5, 8, 9, 10, 11, 12, 13, 14, 15, 16, 19]
theorem c_mread (F0 : Nat → Int32) (G0 : Nat → Int64) (A0 : Nat → Nat → Int32) (B : Nat → Nat → Int64) (tb : Nat → Nat) (z t j : Nat) (hj : j < 8) (hzt : z ≤ t) (ht4 : t ≤ 400) (h8 : F0 8 = nI t) (htb : ∀ i, tb i < 256) (ht : ∀ i, i < z → A0 7 i = nI (tb i)) : zCtr yX6_read cX6_read 6 (some .int) 4 0 0 [zr 1 0, zi (nI j), zi (nI z)] [zH, zG F0 G0 A0 B] (fun r w => ∃ F' G' A', w = [zH, zG F' G' A' B] ∧ F' 0 = nI 0 ∧ F' 8 = nI 0 ∧ frm RF F0 F' ∧ frm [17] G0 G' ∧ frm [1, 2, 3, 6, 18] A0 A' ∧ (∀ e b, rdS tb z = .inl (e, b) → r = some (zi (nI e)) ∧ F' 10 = nI b ∧ ∀ i, i < 8 → SltEq A0 A' i) ∧ (∀ n d f, rdS tb z = .inr (n, d, f) → r = some (zi (nI 0)) ∧ F' 10 = -1 ∧ Slt A' j n (nI d) f ∧ ∀ i, i < 8 → i ≠ j → SltEq A0 A' i)) zNx := by
  refine z_start (by decide) [some (zr 1 0), some (zi (nI j)), some (zi (nI z)), none, none, none] rfl (fun _ => Nat.le_of_ble_eq_true rfl) (fun _ => rfl) (fun X F E hno hin => ?_)
  have hz : z ≤ 400 := by omega
  obtain ⟨q1o, q2o, q3o, q4o, q5o⟩ := rq_ok tb z
  have fin : ∀ (F1 : Nat → Int32) (G1 : Nat → Int64) (A1 : Nat → Nat → Int32) (e b n d : Nat) (f : Nat → Int32), RS tb z F1 G1 e b → e ≤ 6 → (e ≠ 0 → rdS tb z = .inl (e, b)) → (e = 0 → rdS tb z = .inr (n, d, f) ∧ Lay F1 A1 n (nI d) f) → F1 0 = nI 0 → F1 8 = nI 0 → frm RF F0 F1 → frm [17] G0 G1 → frm [6, 18] A0 A1 → Z X [some (zr 1 0), some (zi (nI j)), none, none, none, none] [] [zH, zG F1 G1 A1 B] 0 0 178 := by
    intro F1 G1 A1 e b n d f hS he hbad hgood f0 f8 kF kG kA
    by_cases e0 : e = 0
    · obtain ⟨hr, hl⟩ := hgood e0
      refine z_aload_n F dX6_read_178 rfl ?_
      refine z_callV F (c_misGood F1 G1 A1 B e he hS.2.1) 0 rfl (lw_V q1804 q1806 qs54 q117 q1807) (by decide +kernel) ⟨Nat.le_of_ble_eq_true rfl, Nat.le_of_ble_eq_true rfl⟩ ⟨by omega, by omega⟩ [0, 1] 2 ⟨rfl, rfl, rfl, ⟨Or.inl rfl, Or.inr rfl, trivial⟩⟩ (fun h => nomatch h) (Nat.le_of_ble_eq_true rfl) ⟨⟨Or.inr trivial, Or.inl rfl, trivial⟩, rfl, rfl, rfl, Nat.le_of_ble_eq_true rfl⟩ rfl zC6 (zat_G0 rfl) rfl dX6_read_179 (fun r_179 w_179 hp => ?_) (fun _ _ h => h.elim)
      obtain ⟨rfl, rfl⟩ := hp
      refine z_weq (w' := [zH, zG _ _ _ _]) rfl ?_
      refine z_seq (S' := zi _ :: _) rfl ?_
      refine z_if_eqB F (tgt := 190) dX6_read_182 (by decide) (fun c_182 => ?_) (fun c_182 => ?_)
      · exact absurd e0 (of_decide_eq_false c_182)
      · refine z_aload_n F dX6_read_185 rfl ?_
        refine z_iload_n F dX6_read_186 rfl ?_
        refine z_callV F (c_keeps F1 G1 A1 B j n (nI d) f hj hl) 1 rfl (lw_V q1724 q1726 qs41 q117 q1727) (by decide +kernel) ⟨Nat.le_of_ble_eq_true rfl, Nat.le_of_ble_eq_true rfl⟩ ⟨by omega, by omega⟩ [0, 1] 2 ⟨rfl, rfl, rfl, ⟨Or.inl rfl, Or.inr rfl, trivial⟩⟩ (fun h => nomatch h) (Nat.le_of_ble_eq_true rfl) ⟨⟨Or.inr trivial, Or.inl rfl, trivial⟩, rfl, rfl, rfl, Nat.le_of_ble_eq_true rfl⟩ rfl zC6 (zat_G0 rfl) rfl dX6_read_187 (fun r_187 w_187 hp => ?_) (fun _ _ h => h.elim)
        obtain ⟨rfl, A2, rfl, g1, g2, g3⟩ := hp
        refine z_weq (w' := [zH, zG _ _ _ _]) rfl ?_
        refine z_seq (S' := []) rfl ?_
        refine z_aload_n F dX6_read_190 rfl ?_
        refine z_mi F rfl 9 rfl (Nat.le_of_ble_eq_true rfl) rfl q1489 dX6_read_191 ?_
        refine z_ieq (hS.2.1) ?_
        exact z_iret F E rfl dX6_read_194 (by omega) (by omega) (⟨F1, G1, A2, rfl, f0, f8, kF, kG, kA.tr g1 (by decide) (by decide), fun e' b' w => (by rw [hr] at w; cases w), fun n' d' f' w => by
  rw [hr] at w
  cases w
  exact ⟨by rw [e0], hS.2.2.2 e0, g2, fun i hi hne => (SltEq.of6 kA ⟨by decide, by decide, by decide⟩).tr (g3 i hi hne)⟩⟩)
    · have hr := hbad e0
      refine z_aload_n F dX6_read_178 rfl ?_
      refine z_callV F (c_misGood F1 G1 A1 B e he hS.2.1) 0 rfl (lw_V q1804 q1806 qs54 q117 q1807) (by decide +kernel) ⟨Nat.le_of_ble_eq_true rfl, Nat.le_of_ble_eq_true rfl⟩ ⟨by omega, by omega⟩ [0, 1] 2 ⟨rfl, rfl, rfl, ⟨Or.inl rfl, Or.inr rfl, trivial⟩⟩ (fun h => nomatch h) (Nat.le_of_ble_eq_true rfl) ⟨⟨Or.inr trivial, Or.inl rfl, trivial⟩, rfl, rfl, rfl, Nat.le_of_ble_eq_true rfl⟩ rfl zC6 (zat_G0 rfl) rfl dX6_read_179 (fun r_179 w_179 hp => ?_) (fun _ _ h => h.elim)
      obtain ⟨rfl, rfl⟩ := hp
      refine z_weq (w' := [zH, zG _ _ _ _]) rfl ?_
      refine z_seq (S' := zi _ :: _) rfl ?_
      refine z_if_eqB F (tgt := 190) dX6_read_182 (by decide) (fun c_182 => ?_) (fun c_182 => ?_)
      · refine z_aload_n F dX6_read_190 rfl ?_
        refine z_mi F rfl 9 rfl (Nat.le_of_ble_eq_true rfl) rfl q1489 dX6_read_191 ?_
        refine z_ieq (hS.2.1) ?_
        exact z_iret F E rfl dX6_read_194 (by omega) (by omega) (⟨F1, G1, A1, rfl, f0, f8, kF, kG, kA.to (by decide), fun e' b' w => by
  rw [hr] at w
  cases w
  exact ⟨rfl, hS.2.2.1 e0, fun i hi => SltEq.of6 kA ⟨by decide, by decide, by decide⟩⟩, fun n' d' f' w => by rw [hr] at w; cases w⟩)
      · exact absurd (of_decide_eq_true c_182) e0
  have bad152 : ∀ (F1 : Nat → Int32) (G1 : Nat → Int64) (A1 : Nat → Nat → Int32) (e b c : Nat), RS tb z F1 G1 e b → e ≤ 6 → e ≠ 0 → rdS tb z = .inl (e, b) → F1 0 = nI 0 → F1 8 = nI 0 → frm RF F0 F1 → frm [17] G0 G1 → frm [6, 18] A0 A1 → Z X [some (zr 1 0), some (zi (nI j)), none, none, none, some (zi (nI c))] [] [zH, zG F1 G1 A1 B] 0 0 152 := by
    intro F1 G1 A1 e b c hS he hne hr f0 f8 kF kG kA
    refine z_aload_n F dX6_read_152 rfl ?_
    refine z_callV F (c_misGood F1 G1 A1 B e he hS.2.1) 0 rfl (lw_V q1804 q1806 qs54 q117 q1807) (by decide +kernel) ⟨Nat.le_of_ble_eq_true rfl, Nat.le_of_ble_eq_true rfl⟩ ⟨by omega, by omega⟩ [0, 1] 2 ⟨rfl, rfl, rfl, ⟨Or.inl rfl, Or.inr rfl, trivial⟩⟩ (fun h => nomatch h) (Nat.le_of_ble_eq_true rfl) ⟨⟨Or.inr trivial, Or.inl rfl, trivial⟩, rfl, rfl, rfl, Nat.le_of_ble_eq_true rfl⟩ rfl zC6 (zat_G0 rfl) rfl dX6_read_153 (fun r_153 w_153 hp => ?_) (fun _ _ h => h.elim)
    obtain ⟨rfl, rfl⟩ := hp
    refine z_weq (w' := [zH, zG _ _ _ _]) rfl ?_
    refine z_seq (S' := zi _ :: _) rfl ?_
    refine z_if_eqB F (tgt := 178) dX6_read_156 (by decide) (fun c_156 => ?_) (fun c_156 => ?_)
    · refine z_loc _ ?_ (fin F1 G1 A1 e b 0 0 (fun _ => 0) hS he (fun _ => hr) (fun w => absurd w hne) f0 f8 kF kG kA)
      exact ⟨rfl, rfl, trivial⟩
    · exact absurd (of_decide_eq_true c_156) hne
  have loop : ∀ (n d : Nat), n = rqN tb z → d = rqD tb z → (rq5 tb z).1 = 0 → ∀ (u c : Nat) (F1 : Nat → Int32) (G1 : Nat → Int64) (A1 : Nat → Nat → Int32) (b : Nat) (f : Nat → Int32), u + c = 22 → c ≤ 20 → b ≤ z → nok n d f → Lay F1 A1 n (nI d) f → RS tb z F1 G1 0 b → rqR tb z = csS tb z n d u f c b → F1 0 = nI 0 → F1 8 = nI 0 → frm RF F0 F1 → frm [17] G0 G1 → frm [6, 18] A0 A1 → Z X [some (zr 1 0), some (zi (nI j)), none, none, none, some (zi (nI c))] [] [zH, zG F1 G1 A1 B] 0 0 152 := by
    intro n d hn hd h5 u
    induction u with
    | zero => intro c F1 G1 A1 b f hu hc; omega
    | succ u ih =>
      intro c F1 G1 A1 b f hu hc hb hf hl hS hR f0 f8 kF kG kA
      have hkd := kd_lt tb z b
      obtain ⟨w1, w2, w3⟩ := clS_ok (tb := tb) (z := z) (c := c) hf hb
      rw [csS] at hR
      have hR0 : kd tb z b = 0 → rqR tb z = (0, b, f) := fun w => by rw [hR, if_pos w]
      have hR1 : kd tb z b ≠ 0 → (clS tb z n d f c b).1 ≠ 0 → rqR tb z = clS tb z n d f c b := fun w w2 => by rw [hR, if_neg w, if_pos w2]
      have hR2 : kd tb z b ≠ 0 → (clS tb z n d f c b).1 = 0 → rqR tb z = csS tb z n d u (clS tb z n d f c b).2.2 (c + 1) (clS tb z n d f c b).2.1 := fun w w2 => by rw [hR, if_neg w, if_neg (fun q => q w2)]
      refine z_aload_n F dX6_read_152 rfl ?_
      refine z_callV F (c_misGood F1 G1 A1 B 0 (by omega) hS.2.1) 0 rfl (lw_V q1804 q1806 qs54 q117 q1807) (by decide +kernel) ⟨Nat.le_of_ble_eq_true rfl, Nat.le_of_ble_eq_true rfl⟩ ⟨by omega, by omega⟩ [0, 1] 2 ⟨rfl, rfl, rfl, ⟨Or.inl rfl, Or.inr rfl, trivial⟩⟩ (fun h => nomatch h) (Nat.le_of_ble_eq_true rfl) ⟨⟨Or.inr trivial, Or.inl rfl, trivial⟩, rfl, rfl, rfl, Nat.le_of_ble_eq_true rfl⟩ rfl zC6 (zat_G0 rfl) rfl dX6_read_153 (fun r_153 w_153 hp => ?_) (fun _ _ h => h.elim)
      obtain ⟨rfl, rfl⟩ := hp
      refine z_weq (w' := [zH, zG _ _ _ _]) rfl ?_
      refine z_seq (S' := zi _ :: _) rfl ?_
      refine z_if_eqB F (tgt := 178) dX6_read_156 (by decide) (fun c_156 => ?_) (fun c_156 => ?_)
      · cases c_156
      · refine z_aload_n F dX6_read_159 rfl ?_
        refine z_mi F rfl 13 rfl (Nat.le_of_ble_eq_true rfl) rfl q1493 dX6_read_160 ?_
        refine z_ieq (hS.1.2.2.1) ?_
        refine z_if_eqN F (by omega) (tgt := 178) dX6_read_163 (by decide) (fun c_163 => ?_) (fun c_163 => ?_)
        · have r0 := hR0 (by omega)
          refine z_loc _ ?_ (fin F1 G1 A1 0 b n d f hS (by omega) (fun w => absurd rfl w) (fun _ => ⟨by rw [rdS_R h5, r0, ← hn, ← hd]; rfl, hl⟩) f0 f8 kF kG kA)
          exact ⟨rfl, rfl, trivial⟩
        · refine z_aload_n F dX6_read_166 rfl ?_
          refine z_iload F dX6_read_167 rfl ?_
          refine z_callV F (c_mclause F1 G1 A1 B tb z n d c b f hz hb htb (fun i hi => by rw [kA.at 7 rfl]; exact ht i hi) hS hl.1 hl.2.1 hf hl.2.2 hc) 1 rfl (lw_V q1816 q1818 qs57 q117 q1819) (by decide +kernel) ⟨Nat.le_of_ble_eq_true rfl, Nat.le_of_ble_eq_true rfl⟩ ⟨by omega, by omega⟩ [0, 1] 2 ⟨rfl, rfl, rfl, ⟨Or.inl rfl, Or.inr rfl, trivial⟩⟩ (fun h => nomatch h) (Nat.le_of_ble_eq_true rfl) ⟨⟨Or.inr trivial, Or.inl rfl, trivial⟩, rfl, rfl, rfl, Nat.le_of_ble_eq_true rfl⟩ rfl zC6 (zat_G0 rfl) rfl dX6_read_169 (fun r_169 w_169 hp => ?_) (fun _ _ h => h.elim)
          obtain ⟨rfl, F2, G2, A2, rfl, m1, m2, m3, m4, m5⟩ := hp
          refine z_weq (w' := [zH, zG _ _ _ _]) rfl ?_
          refine z_seq (S' := []) rfl ?_
          refine z_iincN F 1 dX6_read_172 rfl rfl ?_
          refine z_leq (L' := [_, _, _, _, _, _]) rfl ?_
          refine z_goto F (tgt := 152) dX6_read_175 (by decide) ?_
          have hk0 : kd tb z b ≠ 0 := by omega
          have kF2 : frm RF F0 F2 := kF.tr m3 (by decide) (by decide)
          have kG2 : frm [17] G0 G2 := kG.tr m4 (by decide) (by decide)
          have kA2 : frm [6, 18] A0 A2 := kA.tr m5 (by decide) (by decide)
          by_cases e0 : (clS tb z n d f c b).1 = 0
          · have hc20 : c ≠ 20 := fun q => by rw [q] at e0; exact clS_20 e0
            exact ih (c + 1) F2 G2 A2 _ _ (by omega) (by omega) w2 (w3 e0) ⟨(m3.at 4 rfl).trans hl.1, (m3.at 5 rfl).trans hl.2.1, m2 e0⟩ (by rw [e0] at m1; exact m1) (hR2 hk0 e0) ((m3.at 0 rfl).trans f0) ((m3.at 8 rfl).trans f8) kF2 kG2 kA2
          · exact bad152 F2 G2 A2 _ _ (c + 1) m1 w1 e0 (by rw [rdS_R h5, hR1 hk0 e0, if_pos e0]) ((m3.at 0 rfl).trans f0) ((m3.at 8 rfl).trans f8) kF2 kG2 kA2
  have at139 : ∀ (F1 : Nat → Int32) (G1 : Nat → Int64) (v1 v2 : Nat) (is : Bool), RS tb z F1 G1 (rq4 tb z).1 (rq4 tb z).2 → is = decide (kd tb z (rq4 tb z).2 = 3) → ((rq2 tb z).1 = 0 → v1 = rqN tb z) → ((rq4 tb z).1 = 0 → v2 = rqD tb z) → F1 0 = nI 0 → F1 8 = nI 0 → frm RF F0 F1 → frm [17] G0 G1 → Z X [some (zr 1 0), some (zi (nI j)), none, some (zi (nI v1)), some (zi (nI v2)), none] [zi (bI is), zr 1 0] [zH, zG F1 G1 A0 B] 0 0 139 := by
    intro F1 G1 v1 v2 is hS his hv1 hv2 f0 f8 kF kG
    subst his
    refine z_callV F (c_mneed F1 G1 A0 B tb z (rq4 tb z).1 (rq4 tb z).2 _ hz q4o.1 htb ht q4o.2 hS) 1 rfl (lw_V q1800 q1802 qs53 q117 q1803) (by decide +kernel) ⟨Nat.le_of_ble_eq_true rfl, Nat.le_of_ble_eq_true rfl⟩ ⟨by omega, by omega⟩ [0, 1] 2 ⟨rfl, rfl, rfl, ⟨Or.inl rfl, Or.inr rfl, trivial⟩⟩ (fun h => nomatch h) (Nat.le_of_ble_eq_true rfl) ⟨⟨Or.inr trivial, Or.inl rfl, trivial⟩, rfl, rfl, rfl, Nat.le_of_ble_eq_true rfl⟩ rfl zC6 (zat_G0 rfl) rfl dX6_read_139 (fun r_139 w_139 hp => ?_) (fun _ _ h => h.elim)
    obtain ⟨rfl, F2, G2, rfl, k1, k2, k3⟩ := hp
    refine z_weq (w' := [zH, zG _ _ _ _]) rfl ?_
    refine z_seq (S' := []) rfl ?_
    refine z_aload_n F dX6_read_142 rfl ?_
    refine z_iload_n F dX6_read_143 rfl ?_
    refine z_iload F dX6_read_144 rfl ?_
    refine z_callV F (c_clears F2 G2 A0 B v1 (nI v2)) 2 rfl (lw_V q1720 q1722 qs40 q117 q1723) (by decide +kernel) ⟨Nat.le_of_ble_eq_true rfl, Nat.le_of_ble_eq_true rfl⟩ ⟨by omega, by omega⟩ [0, 1] 2 ⟨rfl, rfl, rfl, ⟨Or.inl rfl, Or.inr rfl, trivial⟩⟩ (fun h => nomatch h) (Nat.le_of_ble_eq_true rfl) ⟨⟨Or.inr trivial, Or.inl rfl, trivial⟩, rfl, rfl, rfl, Nat.le_of_ble_eq_true rfl⟩ rfl zC6 (zat_G0 rfl) rfl dX6_read_146 (fun r_146 w_146 hp => ?_) (fun _ _ h => h.elim)
    obtain ⟨rfl, F3, A3, rfl, m1, m2, m3⟩ := hp
    refine z_weq (w' := [zH, zG _ _ _ _]) rfl ?_
    refine z_seq (S' := []) rfl ?_
    refine z_iconst F (nI 0) dX6_read_149 rfl ?_
    refine z_istore F dX6_read_150 (Nat.le_of_ble_eq_true rfl) ?_
    refine z_leq (L' := [_, _, _, _, _, _]) rfl ?_
    have hS3 : RS tb z F3 G2 (rq5 tb z).1 (rq5 tb z).2 := RS_cong k1 m1
    have kF3 : frm RF F0 F3 := (kF.tr k2 (l2 := RF) (by decide) (by decide)).tr m1 (by decide) (by decide)
    have kG3 : frm [17] G0 G2 := kG.tr k3 (by decide) (by decide)
    have f03 : F3 0 = nI 0 := (m1.at 0 rfl).trans ((k2.at 0 rfl).trans f0)
    have f83 : F3 8 = nI 0 := (m1.at 8 rfl).trans ((k2.at 8 rfl).trans f8)
    by_cases e0 : (rq5 tb z).1 = 0
    · obtain ⟨z2, z4, n1, n2, d1, d2⟩ := rq_0 e0
      have e1 := hv1 z2
      have e2 := hv2 z4
      subst e1
      subst e2
      refine z_loc _ ?_ (loop _ _ rfl rfl e0 22 0 F3 G2 A3 (rq5 tb z).2 (fun _ => nI 0) rfl (by omega) q5o.1 (nok_zero0 n1 n2 d1 d2) m3 (by rw [e0] at hS3; exact hS3) rfl f03 f83 kF3 kG3 (m2.to (by decide)))
      exact ⟨rfl, rfl, rfl, trivial⟩
    · refine z_loc _ ?_ (bad152 F3 G2 A3 _ _ 0 hS3 q5o.2 e0 (rdS_5 e0) f03 f83 kF3 kG3 (m2.to (by decide)))
      exact ⟨rfl, rfl, rfl, trivial⟩
  have at113 : ∀ (F1 : Nat → Int32) (G1 : Nat → Int64) (v1 : Nat) (is : Bool), RS tb z F1 G1 (rq2 tb z).1 (rq2 tb z).2 → is = isWb tb z (rq2 tb z).2 6 → ((rq2 tb z).1 = 0 → v1 = rqN tb z) → F1 0 = nI 0 → F1 8 = nI 0 → frm RF F0 F1 → frm [17] G0 G1 → Z X [some (zr 1 0), some (zi (nI j)), none, some (zi (nI v1)), none, none] [zi (bI is), zr 1 0] [zH, zG F1 G1 A0 B] 0 0 113 := by
    intro F1 G1 v1 is hS his hv1 f0 f8 kF kG
    subst his
    have hk := kd_lt tb z (numS tb z 1 8 (rq3 tb z).1 (rq3 tb z).2).2
    refine z_callV F (c_mneed F1 G1 A0 B tb z (rq2 tb z).1 (rq2 tb z).2 _ hz q2o.1 htb ht q2o.2 hS) 1 rfl (lw_V q1800 q1802 qs53 q117 q1803) (by decide +kernel) ⟨Nat.le_of_ble_eq_true rfl, Nat.le_of_ble_eq_true rfl⟩ ⟨by omega, by omega⟩ [0, 1] 2 ⟨rfl, rfl, rfl, ⟨Or.inl rfl, Or.inr rfl, trivial⟩⟩ (fun h => nomatch h) (Nat.le_of_ble_eq_true rfl) ⟨⟨Or.inr trivial, Or.inl rfl, trivial⟩, rfl, rfl, rfl, Nat.le_of_ble_eq_true rfl⟩ rfl zC6 (zat_G0 rfl) rfl dX6_read_113 (fun r_113 w_113 hp => ?_) (fun _ _ h => h.elim)
    obtain ⟨rfl, F2, G2, rfl, k1, k2, k3⟩ := hp
    refine z_weq (w' := [zH, zG _ _ _ _]) rfl ?_
    refine z_seq (S' := []) rfl ?_
    refine z_aload_n F dX6_read_116 rfl ?_
    refine z_iconst F (nI 1) dX6_read_117 rfl ?_
    refine z_bipush F (nI 8) dX6_read_118 rfl ?_
    refine z_callV F (c_mnumber F2 G2 A0 B tb z (rq3 tb z).1 (rq3 tb z).2 1 8 hz q3o.1 htb ht q3o.2 k1 (by omega) (by omega)) 2 rfl (lw_V q1812 q1814 qs56 q117 q1815) (by decide +kernel) ⟨Nat.le_of_ble_eq_true rfl, Nat.le_of_ble_eq_true rfl⟩ ⟨by omega, by omega⟩ [0, 1] 2 ⟨rfl, rfl, rfl, ⟨Or.inl rfl, Or.inr rfl, trivial⟩⟩ (fun h => nomatch h) (Nat.le_of_ble_eq_true rfl) ⟨⟨Or.inr trivial, Or.inl rfl, trivial⟩, rfl, rfl, rfl, Nat.le_of_ble_eq_true rfl⟩ rfl zC6 (zat_G0 rfl) rfl dX6_read_120 (fun r_120 w_120 hp => ?_) (fun _ _ h => h.elim)
    obtain ⟨v2, F3, G3, rfl, hv, rfl, m1, m2, m3⟩ := hp
    refine z_weq (w' := [zH, zG _ _ _ _]) rfl ?_
    refine z_seq (S' := zi _ :: _) rfl ?_
    refine z_istore F dX6_read_123 (Nat.le_of_ble_eq_true rfl) ?_
    refine z_leq (L' := [_, _, _, _, _, _]) rfl ?_
    refine z_aload_n F dX6_read_125 rfl ?_
    refine z_aload_n F dX6_read_126 rfl ?_
    refine z_mi F rfl 13 rfl (Nat.le_of_ble_eq_true rfl) rfl q1493 dX6_read_127 ?_
    refine z_ieq (m1.1.2.2.1) ?_
    refine z_iconst F (nI 3) dX6_read_130 rfl ?_
    refine z_icmp_neN F (by omega) (by omega) (tgt := 138) dX6_read_131 (by decide) (fun c_131 => ?_) (fun c_131 => ?_)
    · have kF3 : frm RF F0 F3 := (kF.tr k2 (l2 := RF) (by decide) (by decide)).tr m2 (by decide) (by decide)
      have kG3 : frm [17] G0 G3 := (kG.tr k3 (l2 := [17]) (by decide) (by decide)).tr m3 (by decide) (by decide)
      refine z_iconstB F false dX6_read_138 rfl ?_
      exact at139 F3 G3 v1 v2 false m1 (decide_eq_false c_131).symm hv1 hv ((m2.at 0 rfl).trans ((k2.at 0 rfl).trans f0)) ((m2.at 8 rfl).trans ((k2.at 8 rfl).trans f8)) kF3 kG3
    · have kF3 : frm RF F0 F3 := (kF.tr k2 (l2 := RF) (by decide) (by decide)).tr m2 (by decide) (by decide)
      have kG3 : frm [17] G0 G3 := (kG.tr k3 (l2 := [17]) (by decide) (by decide)).tr m3 (by decide) (by decide)
      refine z_iconstB F true dX6_read_134 rfl ?_
      refine z_goto F (tgt := 139) dX6_read_135 (by decide) ?_
      exact at139 F3 G3 v1 v2 true m1 (decide_eq_true c_131).symm hv1 hv ((m2.at 0 rfl).trans ((k2.at 0 rfl).trans f0)) ((m2.at 8 rfl).trans ((k2.at 8 rfl).trans f8)) kF3 kG3
  have at87 : ∀ (F1 : Nat → Int32) (G1 : Nat → Int64) (is : Bool), RS tb z F1 G1 0 (sk tb z 0) → is = isWb tb z (sk tb z 0) 5 → F1 0 = nI 0 → F1 8 = nI 0 → frm RF F0 F1 → frm [17] G0 G1 → Z X [some (zr 1 0), some (zi (nI j)), none, none, none, none] [zi (bI is), zr 1 0] [zH, zG F1 G1 A0 B] 0 0 87 := by
    intro F1 G1 is hS his f0 f8 kF kG
    subst his
    refine z_callV F (c_mneed F1 G1 A0 B tb z 0 (sk tb z 0) _ hz ((sk_ge tb z 0).2 (by omega)) htb ht (by omega) hS) 1 rfl (lw_V q1800 q1802 qs53 q117 q1803) (by decide +kernel) ⟨Nat.le_of_ble_eq_true rfl, Nat.le_of_ble_eq_true rfl⟩ ⟨by omega, by omega⟩ [0, 1] 2 ⟨rfl, rfl, rfl, ⟨Or.inl rfl, Or.inr rfl, trivial⟩⟩ (fun h => nomatch h) (Nat.le_of_ble_eq_true rfl) ⟨⟨Or.inr trivial, Or.inl rfl, trivial⟩, rfl, rfl, rfl, Nat.le_of_ble_eq_true rfl⟩ rfl zC6 (zat_G0 rfl) rfl dX6_read_87 (fun r_87 w_87 hp => ?_) (fun _ _ h => h.elim)
    obtain ⟨rfl, F2, G2, rfl, k1, k2, k3⟩ := hp
    refine z_weq (w' := [zH, zG _ _ _ _]) rfl ?_
    refine z_seq (S' := []) rfl ?_
    refine z_aload_n F dX6_read_90 rfl ?_
    refine z_iconst F (nI 1) dX6_read_91 rfl ?_
    refine z_bipush F (nI 24) dX6_read_92 rfl ?_
    refine z_callV F (c_mnumber F2 G2 A0 B tb z (rq1 tb z).1 (rq1 tb z).2 1 24 hz q1o.1 htb ht q1o.2 k1 (by omega) (by omega)) 2 rfl (lw_V q1812 q1814 qs56 q117 q1815) (by decide +kernel) ⟨Nat.le_of_ble_eq_true rfl, Nat.le_of_ble_eq_true rfl⟩ ⟨by omega, by omega⟩ [0, 1] 2 ⟨rfl, rfl, rfl, ⟨Or.inl rfl, Or.inr rfl, trivial⟩⟩ (fun h => nomatch h) (Nat.le_of_ble_eq_true rfl) ⟨⟨Or.inr trivial, Or.inl rfl, trivial⟩, rfl, rfl, rfl, Nat.le_of_ble_eq_true rfl⟩ rfl zC6 (zat_G0 rfl) rfl dX6_read_94 (fun r_94 w_94 hp => ?_) (fun _ _ h => h.elim)
    obtain ⟨v1, F3, G3, rfl, hv, rfl, m1, m2, m3⟩ := hp
    refine z_weq (w' := [zH, zG _ _ _ _]) rfl ?_
    refine z_seq (S' := zi _ :: _) rfl ?_
    refine z_istore_n F dX6_read_97 (Nat.le_of_ble_eq_true rfl) ?_
    refine z_leq (L' := [_, _, _, _, _, _]) rfl ?_
    refine z_aload_n F dX6_read_98 rfl ?_
    refine z_aload_n F dX6_read_99 rfl ?_
    refine z_callV F (c_mknown F3 G3 A0 B tb z (rq2 tb z).2 hz q2o.1 m1.1) 0 rfl (lw_V q1793 q1795 qs52 q117 q1796) (by decide +kernel) ⟨Nat.le_of_ble_eq_true rfl, Nat.le_of_ble_eq_true rfl⟩ ⟨by omega, by omega⟩ [0, 1] 2 ⟨rfl, rfl, rfl, ⟨Or.inl rfl, Or.inr rfl, trivial⟩⟩ (fun h => nomatch h) (Nat.le_of_ble_eq_true rfl) ⟨⟨Or.inr trivial, Or.inl rfl, trivial⟩, rfl, rfl, rfl, Nat.le_of_ble_eq_true rfl⟩ rfl zC6 (zat_G0 rfl) rfl dX6_read_100 (fun r_100 w_100 hp => ?_) (fun _ _ h => h.elim)
    obtain ⟨rfl, rfl⟩ := hp
    refine z_weq (w' := [zH, zG _ _ _ _]) rfl ?_
    refine z_seq (S' := zi _ :: _) rfl ?_
    refine z_bipush F (nI 6) dX6_read_103 rfl ?_
    refine z_icmp_ne F (tgt := 112) dX6_read_105 (by decide) (fun c_105 => ?_) (fun c_105 => ?_)
    · have kF3 : frm RF F0 F3 := (kF.tr k2 (l2 := RF) (by decide) (by decide)).tr m2 (by decide) (by decide)
      have kG3 : frm [17] G0 G3 := (kG.tr k3 (l2 := [17]) (by decide) (by decide)).tr m3 (by decide) (by decide)
      refine z_iconstB F false dX6_read_112 rfl ?_
      exact at113 F3 G3 v1 false m1 (ff_of (fun w => c_105 ((kwR_is (by decide)).mpr w))).symm hv ((m2.at 0 rfl).trans ((k2.at 0 rfl).trans f0)) ((m2.at 8 rfl).trans ((k2.at 8 rfl).trans f8)) kF3 kG3
    · have kF3 : frm RF F0 F3 := (kF.tr k2 (l2 := RF) (by decide) (by decide)).tr m2 (by decide) (by decide)
      have kG3 : frm [17] G0 G3 := (kG.tr k3 (l2 := [17]) (by decide) (by decide)).tr m3 (by decide) (by decide)
      refine z_iconstB F true dX6_read_108 rfl ?_
      refine z_goto F (tgt := 113) dX6_read_109 (by decide) ?_
      exact at113 F3 G3 v1 true m1 ((kwR_is (by decide)).mp c_105).symm hv ((m2.at 0 rfl).trans ((k2.at 0 rfl).trans f0)) ((m2.at 8 rfl).trans ((k2.at 8 rfl).trans f8)) kF3 kG3
  refine z_aload_n F dX6_read_0 rfl ?_
  refine z_iconst F (nI 0) dX6_read_1 rfl ?_
  refine z_pmi F rfl 0 rfl (Nat.le_of_ble_eq_true rfl) rfl q1480 rfl rfl rfl dX6_read_2 ?_
  refine z_weq (w' := [_, _]) rfl ?_
  refine z_aload_n F dX6_read_5 rfl ?_
  refine z_iload_n F dX6_read_6 rfl ?_
  refine z_callS F (c_isSlot (nI j)) 1 rfl (lw_S q1714 q1715 q117 q1716) (by decide +kernel) ⟨Nat.le_of_ble_eq_true rfl, Nat.le_of_ble_eq_true rfl⟩ ⟨by omega, by omega⟩ [0] 2 ⟨rfl, rfl, rfl, ⟨Or.inl rfl, trivial⟩⟩ (fun h => nomatch h) (Nat.le_of_ble_eq_true rfl) ⟨⟨Or.inr trivial, Or.inr trivial, trivial⟩, rfl, rfl, rfl, Nat.le_of_ble_eq_true rfl⟩ rfl rfl dX6_read_7 (fun r_7 w_7 hp => ?_) (fun _ _ h => h.elim)
  obtain ⟨rfl, rfl⟩ := hp
  refine z_weq (w' := [zH, zG _ _ _ _]) rfl ?_
  refine z_seq (S' := zi _ :: _) rfl ?_
  refine z_iconst F (nI 1) dX6_read_10 rfl ?_
  rw [slB_n hj]
  refine z_callV F (c_right (upd F0 0 (nI 0)) _ _ _ true 1 rfl (by omega) (by omega)) 2 rfl (lw_V q1736 q1738 qs43 q117 q1739) (by decide +kernel) ⟨Nat.le_of_ble_eq_true rfl, Nat.le_of_ble_eq_true rfl⟩ ⟨by omega, by omega⟩ [0, 1] 2 ⟨rfl, rfl, rfl, ⟨Or.inl rfl, Or.inr rfl, trivial⟩⟩ (fun h => nomatch h) (Nat.le_of_ble_eq_true rfl) ⟨⟨Or.inr trivial, Or.inl rfl, trivial⟩, rfl, rfl, rfl, Nat.le_of_ble_eq_true rfl⟩ rfl zC6 (zat_G0 rfl) rfl dX6_read_11 (fun r_11 w_11 hp => ?_) (fun _ _ h => h.elim)
  obtain ⟨rfl, rfl⟩ := hp
  refine z_weq (w' := [zH, zG _ _ _ _]) rfl ?_
  refine z_seq (S' := zi _ :: _) rfl ?_
  refine z_if_eqB F (tgt := 42) dX6_read_14 (by decide) (fun c_14 => ?_) (fun c_14 => ?_)
  · cases c_14
  · refine z_aload_n F dX6_read_17 rfl ?_
    refine z_iload_n F dX6_read_18 rfl ?_
    refine z_if_ltN F (by omega) (tgt := 34) dX6_read_19 (by decide) (fun c_19 => ?_) (fun c_19 => ?_)
    · exact absurd c_19 (by omega)
    · refine z_iload_n F dX6_read_22 rfl ?_
      refine z_aload_n F dX6_read_23 rfl ?_
      refine z_mi F rfl 8 rfl (Nat.le_of_ble_eq_true rfl) rfl q1488 dX6_read_24 ?_
      refine z_ieq (h8) ?_
      refine z_icmp_gtN F (by omega) (by omega) (tgt := 34) dX6_read_27 (by decide) (fun c_27 => ?_) (fun c_27 => ?_)
      · exact absurd c_27 (by omega)
      · refine z_iconstB F true dX6_read_30 rfl ?_
        refine z_goto F (tgt := 35) dX6_read_31 (by decide) ?_
        refine z_iconst F (nI 2) dX6_read_35 rfl ?_
        refine z_callV F (c_right (upd F0 0 (nI 0)) _ _ _ true 2 rfl (by omega) (by omega)) 2 rfl (lw_V q1736 q1738 qs43 q117 q1739) (by decide +kernel) ⟨Nat.le_of_ble_eq_true rfl, Nat.le_of_ble_eq_true rfl⟩ ⟨by omega, by omega⟩ [0, 1] 2 ⟨rfl, rfl, rfl, ⟨Or.inl rfl, Or.inr rfl, trivial⟩⟩ (fun h => nomatch h) (Nat.le_of_ble_eq_true rfl) ⟨⟨Or.inr trivial, Or.inl rfl, trivial⟩, rfl, rfl, rfl, Nat.le_of_ble_eq_true rfl⟩ rfl zC6 (zat_G0 rfl) rfl dX6_read_36 (fun r_36 w_36 hp => ?_) (fun _ _ h => h.elim)
        obtain ⟨rfl, rfl⟩ := hp
        refine z_weq (w' := [zH, zG _ _ _ _]) rfl ?_
        refine z_seq (S' := zi _ :: _) rfl ?_
        refine z_if_neB F (tgt := 44) dX6_read_39 (by decide) (fun c_39 => ?_) (fun c_39 => ?_)
        · refine z_aload_n F dX6_read_44 rfl ?_
          refine z_iconst F (nI 0) dX6_read_45 rfl ?_
          refine z_pmi F rfl 8 rfl (Nat.le_of_ble_eq_true rfl) rfl q1488 rfl rfl rfl dX6_read_46 ?_
          refine z_weq (w' := [_, _]) rfl ?_
          refine z_aload_n F dX6_read_49 rfl ?_
          refine z_iconst F (-1) dX6_read_50 rfl ?_
          refine z_pmi F rfl 10 rfl (Nat.le_of_ble_eq_true rfl) rfl q1490 rfl rfl rfl dX6_read_51 ?_
          refine z_weq (w' := [_, _]) rfl ?_
          refine z_aload_n F dX6_read_54 rfl ?_
          refine z_iconst F (nI 0) dX6_read_55 rfl ?_
          refine z_pmi F rfl 9 rfl (Nat.le_of_ble_eq_true rfl) rfl q1489 rfl rfl rfl dX6_read_56 ?_
          refine z_weq (w' := [_, _]) rfl ?_
          refine z_aload_n F dX6_read_59 rfl ?_
          refine z_iload_n F dX6_read_60 rfl ?_
          refine z_pmi F rfl 11 rfl (Nat.le_of_ble_eq_true rfl) rfl q1491 rfl rfl rfl dX6_read_61 ?_
          refine z_weq (w' := [_, _]) rfl ?_
          refine z_aload_n F dX6_read_64 rfl ?_
          refine z_iconst F (nI 0) dX6_read_65 rfl ?_
          refine z_pmi F rfl 12 rfl (Nat.le_of_ble_eq_true rfl) rfl q1492 rfl rfl rfl dX6_read_66 ?_
          refine z_weq (w' := [_, _]) rfl ?_
          refine z_aload_n F dX6_read_69 rfl ?_
          refine z_callV F (c_mrdGo (upd (upd (upd (upd (upd (upd F0 0 (nI 0)) 8 (nI 0)) 10 (-1)) 9 (nI 0)) 11 (nI z)) 12 (nI 0)) G0 A0 B tb z 0 hz (by omega) htb rfl rfl ht) 0 rfl (lw_V q1779 q1781 qs50 q117 q1782) (by decide +kernel) ⟨Nat.le_of_ble_eq_true rfl, Nat.le_of_ble_eq_true rfl⟩ ⟨by omega, by omega⟩ [0, 1] 2 ⟨rfl, rfl, rfl, ⟨Or.inl rfl, Or.inr rfl, trivial⟩⟩ (fun h => nomatch h) (Nat.le_of_ble_eq_true rfl) ⟨⟨Or.inr trivial, Or.inl rfl, trivial⟩, rfl, rfl, rfl, Nat.le_of_ble_eq_true rfl⟩ rfl zC6 (zat_G0 rfl) rfl dX6_read_70 (fun r_70 w_70 hp => ?_) (fun _ _ h => h.elim)
          obtain ⟨rfl, F2, G2, rfl, k1, k2, k3⟩ := hp
          refine z_weq (w' := [zH, zG _ _ _ _]) rfl ?_
          refine z_seq (S' := []) rfl ?_
          refine z_aload_n F dX6_read_73 rfl ?_
          refine z_aload_n F dX6_read_74 rfl ?_
          refine z_callV F (c_mknown F2 G2 A0 B tb z (sk tb z 0) hz ((sk_ge tb z 0).2 (by omega)) k1) 0 rfl (lw_V q1793 q1795 qs52 q117 q1796) (by decide +kernel) ⟨Nat.le_of_ble_eq_true rfl, Nat.le_of_ble_eq_true rfl⟩ ⟨by omega, by omega⟩ [0, 1] 2 ⟨rfl, rfl, rfl, ⟨Or.inl rfl, Or.inr rfl, trivial⟩⟩ (fun h => nomatch h) (Nat.le_of_ble_eq_true rfl) ⟨⟨Or.inr trivial, Or.inl rfl, trivial⟩, rfl, rfl, rfl, Nat.le_of_ble_eq_true rfl⟩ rfl zC6 (zat_G0 rfl) rfl dX6_read_75 (fun r_75 w_75 hp => ?_) (fun _ _ h => h.elim)
          obtain ⟨rfl, rfl⟩ := hp
          refine z_weq (w' := [zH, zG _ _ _ _]) rfl ?_
          refine z_seq (S' := zi _ :: _) rfl ?_
          refine z_iconst F (nI 5) dX6_read_78 rfl ?_
          refine z_icmp_ne F (tgt := 86) dX6_read_79 (by decide) (fun c_79 => ?_) (fun c_79 => ?_)
          · have kS : RS tb z F2 G2 0 (sk tb z 0) := ⟨k1, (k2.at 9 rfl).trans rfl, fun w => absurd rfl w, fun _ => (k2.at 10 rfl).trans rfl⟩
            have kF2 : frm RF F0 F2 := (frm_upd (frm_upd (frm_upd (frm_upd (frm_upd (frm_upd (l := RF) frm.rf (by decide)) (by decide)) (by decide)) (by decide)) (by decide)) (by decide)).tr k2 (by decide) (by decide)
            refine z_iconstB F false dX6_read_86 rfl ?_
            refine z_loc _ ?_ (at87 F2 G2 false kS (ff_of (fun w => c_79 ((kwR_is (by decide)).mpr w))).symm ((k2.at 0 rfl).trans rfl) ((k2.at 8 rfl).trans rfl) kF2 k3)
            exact ⟨rfl, rfl, trivial⟩
          · have kS : RS tb z F2 G2 0 (sk tb z 0) := ⟨k1, (k2.at 9 rfl).trans rfl, fun w => absurd rfl w, fun _ => (k2.at 10 rfl).trans rfl⟩
            have kF2 : frm RF F0 F2 := (frm_upd (frm_upd (frm_upd (frm_upd (frm_upd (frm_upd (l := RF) frm.rf (by decide)) (by decide)) (by decide)) (by decide)) (by decide)) (by decide)).tr k2 (by decide) (by decide)
            refine z_iconstB F true dX6_read_82 rfl ?_
            refine z_goto F (tgt := 87) dX6_read_83 (by decide) ?_
            refine z_loc _ ?_ (at87 F2 G2 true kS ((kwR_is (by decide)).mp c_79).symm ((k2.at 0 rfl).trans rfl) ((k2.at 8 rfl).trans rfl) kF2 k3)
            exact ⟨rfl, rfl, trivial⟩
        · cases c_39
theorem c_mread_no (F0 : Nat → Int32) (G0 : Nat → Int64) (A0 : Nat → Nat → Int32) (B : Nat → Nat → Int64) (s v : Int32) (hs : slB s = false) : zCtr yX6_read cX6_read 6 (some .int) 4 0 0 [zr 1 0, zi s, zi v] [zH, zG F0 G0 A0 B] (fun r w => r = some (zi (nI 0)) ∧ w = [zH, zG (upd F0 0 (nI 1)) G0 A0 B]) zNx := by
  refine z_start (by decide) [some (zr 1 0), some (zi s), some (zi v), none, none, none] rfl (fun _ => Nat.le_of_ble_eq_true rfl) (fun _ => rfl) (fun X F E hno hin => ?_)
  refine z_aload_n F dX6_read_0 rfl ?_
  refine z_iconst F (nI 0) dX6_read_1 rfl ?_
  refine z_pmi F rfl 0 rfl (Nat.le_of_ble_eq_true rfl) rfl q1480 rfl rfl rfl dX6_read_2 ?_
  refine z_weq (w' := [_, _]) rfl ?_
  refine z_aload_n F dX6_read_5 rfl ?_
  refine z_iload_n F dX6_read_6 rfl ?_
  refine z_callS F (c_isSlot s) 1 rfl (lw_S q1714 q1715 q117 q1716) (by decide +kernel) ⟨Nat.le_of_ble_eq_true rfl, Nat.le_of_ble_eq_true rfl⟩ ⟨by omega, by omega⟩ [0] 2 ⟨rfl, rfl, rfl, ⟨Or.inl rfl, trivial⟩⟩ (fun h => nomatch h) (Nat.le_of_ble_eq_true rfl) ⟨⟨Or.inr trivial, Or.inr trivial, trivial⟩, rfl, rfl, rfl, Nat.le_of_ble_eq_true rfl⟩ rfl rfl dX6_read_7 (fun r_7 w_7 hp => ?_) (fun _ _ h => h.elim)
  obtain ⟨rfl, rfl⟩ := hp
  refine z_weq (w' := [zH, zG _ _ _ _]) rfl ?_
  refine z_seq (S' := zi _ :: _) rfl ?_
  refine z_iconst F (nI 1) dX6_read_10 rfl ?_
  rw [hs]
  refine z_callV F (c_right (upd F0 0 (nI 0)) _ _ _ false 1 rfl (by omega) (by omega)) 2 rfl (lw_V q1736 q1738 qs43 q117 q1739) (by decide +kernel) ⟨Nat.le_of_ble_eq_true rfl, Nat.le_of_ble_eq_true rfl⟩ ⟨by omega, by omega⟩ [0, 1] 2 ⟨rfl, rfl, rfl, ⟨Or.inl rfl, Or.inr rfl, trivial⟩⟩ (fun h => nomatch h) (Nat.le_of_ble_eq_true rfl) ⟨⟨Or.inr trivial, Or.inl rfl, trivial⟩, rfl, rfl, rfl, Nat.le_of_ble_eq_true rfl⟩ rfl zC6 (zat_G0 rfl) rfl dX6_read_11 (fun r_11 w_11 hp => ?_) (fun _ _ h => h.elim)
  obtain ⟨rfl, rfl⟩ := hp
  refine z_weq (w' := [zH, zG _ _ _ _]) rfl ?_
  refine z_seq (S' := zi _ :: _) rfl ?_
  refine z_if_eqB F (tgt := 42) dX6_read_14 (by decide) (fun c_14 => ?_) (fun c_14 => ?_)
  · refine z_iconst F (nI 0) dX6_read_42 rfl ?_
    exact z_iret F E rfl dX6_read_43 (by omega) (by omega) (⟨rfl, by rw [upd_upd]; rfl⟩)
  · cases c_14
theorem c_mread_bad (F0 : Nat → Int32) (G0 : Nat → Int64) (A0 : Nat → Nat → Int32) (B : Nat → Nat → Int64) (j t : Nat) (v : Int32) (hj : j < 8) (ht4 : t ≤ 400) (h8 : F0 8 = nI t) (hv : ∀ i, i < t + 1 → ¬ v = nI i) : zCtr yX6_read cX6_read 6 (some .int) 4 0 0 [zr 1 0, zi (nI j), zi v] [zH, zG F0 G0 A0 B] (fun r w => r = some (zi (nI 0)) ∧ w = [zH, zG (upd F0 0 (nI 2)) G0 A0 B]) zNx := by
  refine z_start (by decide) [some (zr 1 0), some (zi (nI j)), some (zi v), none, none, none] rfl (fun _ => Nat.le_of_ble_eq_true rfl) (fun _ => rfl) (fun X F E hno hin => ?_)
  refine z_aload_n F dX6_read_0 rfl ?_
  refine z_iconst F (nI 0) dX6_read_1 rfl ?_
  refine z_pmi F rfl 0 rfl (Nat.le_of_ble_eq_true rfl) rfl q1480 rfl rfl rfl dX6_read_2 ?_
  refine z_weq (w' := [_, _]) rfl ?_
  refine z_aload_n F dX6_read_5 rfl ?_
  refine z_iload_n F dX6_read_6 rfl ?_
  refine z_callS F (c_isSlot (nI j)) 1 rfl (lw_S q1714 q1715 q117 q1716) (by decide +kernel) ⟨Nat.le_of_ble_eq_true rfl, Nat.le_of_ble_eq_true rfl⟩ ⟨by omega, by omega⟩ [0] 2 ⟨rfl, rfl, rfl, ⟨Or.inl rfl, trivial⟩⟩ (fun h => nomatch h) (Nat.le_of_ble_eq_true rfl) ⟨⟨Or.inr trivial, Or.inr trivial, trivial⟩, rfl, rfl, rfl, Nat.le_of_ble_eq_true rfl⟩ rfl rfl dX6_read_7 (fun r_7 w_7 hp => ?_) (fun _ _ h => h.elim)
  obtain ⟨rfl, rfl⟩ := hp
  refine z_weq (w' := [zH, zG _ _ _ _]) rfl ?_
  refine z_seq (S' := zi _ :: _) rfl ?_
  refine z_iconst F (nI 1) dX6_read_10 rfl ?_
  rw [slB_n hj]
  refine z_callV F (c_right (upd F0 0 (nI 0)) _ _ _ true 1 rfl (by omega) (by omega)) 2 rfl (lw_V q1736 q1738 qs43 q117 q1739) (by decide +kernel) ⟨Nat.le_of_ble_eq_true rfl, Nat.le_of_ble_eq_true rfl⟩ ⟨by omega, by omega⟩ [0, 1] 2 ⟨rfl, rfl, rfl, ⟨Or.inl rfl, Or.inr rfl, trivial⟩⟩ (fun h => nomatch h) (Nat.le_of_ble_eq_true rfl) ⟨⟨Or.inr trivial, Or.inl rfl, trivial⟩, rfl, rfl, rfl, Nat.le_of_ble_eq_true rfl⟩ rfl zC6 (zat_G0 rfl) rfl dX6_read_11 (fun r_11 w_11 hp => ?_) (fun _ _ h => h.elim)
  obtain ⟨rfl, rfl⟩ := hp
  refine z_weq (w' := [zH, zG _ _ _ _]) rfl ?_
  refine z_seq (S' := zi _ :: _) rfl ?_
  refine z_if_eqB F (tgt := 42) dX6_read_14 (by decide) (fun c_14 => ?_) (fun c_14 => ?_)
  · cases c_14
  · refine z_aload_n F dX6_read_17 rfl ?_
    refine z_iload_n F dX6_read_18 rfl ?_
    refine z_if_lt F (tgt := 34) dX6_read_19 (by decide) (fun c_19 => ?_) (fun c_19 => ?_)
    · refine z_iconstB F false dX6_read_34 rfl ?_
      refine z_iconst F (nI 2) dX6_read_35 rfl ?_
      refine z_callV F (c_right (upd F0 0 (nI 0)) _ _ _ false 2 rfl (by omega) (by omega)) 2 rfl (lw_V q1736 q1738 qs43 q117 q1739) (by decide +kernel) ⟨Nat.le_of_ble_eq_true rfl, Nat.le_of_ble_eq_true rfl⟩ ⟨by omega, by omega⟩ [0, 1] 2 ⟨rfl, rfl, rfl, ⟨Or.inl rfl, Or.inr rfl, trivial⟩⟩ (fun h => nomatch h) (Nat.le_of_ble_eq_true rfl) ⟨⟨Or.inr trivial, Or.inl rfl, trivial⟩, rfl, rfl, rfl, Nat.le_of_ble_eq_true rfl⟩ rfl zC6 (zat_G0 rfl) rfl dX6_read_36 (fun r_36 w_36 hp => ?_) (fun _ _ h => h.elim)
      obtain ⟨rfl, rfl⟩ := hp
      refine z_weq (w' := [zH, zG _ _ _ _]) rfl ?_
      refine z_seq (S' := zi _ :: _) rfl ?_
      refine z_if_neB F (tgt := 44) dX6_read_39 (by decide) (fun c_39 => ?_) (fun c_39 => ?_)
      · cases c_39
      · refine z_iconst F (nI 0) dX6_read_42 rfl ?_
        exact z_iret F E rfl dX6_read_43 (by omega) (by omega) (⟨rfl, by rw [upd_upd]; rfl⟩)
    · refine z_iload_n F dX6_read_22 rfl ?_
      refine z_aload_n F dX6_read_23 rfl ?_
      refine z_mi F rfl 8 rfl (Nat.le_of_ble_eq_true rfl) rfl q1488 dX6_read_24 ?_
      refine z_ieq (h8) ?_
      refine z_icmp_gt F (tgt := 34) dX6_read_27 (by decide) (fun c_27 => ?_) (fun c_27 => ?_)
      · refine z_iconstB F false dX6_read_34 rfl ?_
        refine z_iconst F (nI 2) dX6_read_35 rfl ?_
        refine z_callV F (c_right (upd F0 0 (nI 0)) _ _ _ false 2 rfl (by omega) (by omega)) 2 rfl (lw_V q1736 q1738 qs43 q117 q1739) (by decide +kernel) ⟨Nat.le_of_ble_eq_true rfl, Nat.le_of_ble_eq_true rfl⟩ ⟨by omega, by omega⟩ [0, 1] 2 ⟨rfl, rfl, rfl, ⟨Or.inl rfl, Or.inr rfl, trivial⟩⟩ (fun h => nomatch h) (Nat.le_of_ble_eq_true rfl) ⟨⟨Or.inr trivial, Or.inl rfl, trivial⟩, rfl, rfl, rfl, Nat.le_of_ble_eq_true rfl⟩ rfl zC6 (zat_G0 rfl) rfl dX6_read_36 (fun r_36 w_36 hp => ?_) (fun _ _ h => h.elim)
        obtain ⟨rfl, rfl⟩ := hp
        refine z_weq (w' := [zH, zG _ _ _ _]) rfl ?_
        refine z_seq (S' := zi _ :: _) rfl ?_
        refine z_if_neB F (tgt := 44) dX6_read_39 (by decide) (fun c_39 => ?_) (fun c_39 => ?_)
        · cases c_39
        · refine z_iconst F (nI 0) dX6_read_42 rfl ?_
          exact z_iret F E rfl dX6_read_43 (by omega) (by omega) (⟨rfl, by rw [upd_upd]; rfl⟩)
      · exact ((nI_of c_19).elim fun k hk => hv k (Nat.lt_succ_of_le (Nat.le_of_not_lt fun w => c_27 (by rw [hk.2]; exact nI_lt w hk.1))) hk.2 : False).elim
end C9yx
