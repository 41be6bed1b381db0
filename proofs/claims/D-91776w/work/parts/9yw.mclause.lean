/-! read: the reference's clauses -/
section C9yw
abbrev LSt (tb : Nat → Nat) (z : Nat) (F0 : Nat → Int32) (G0 : Nat → Int64) (A0 : Nat → Nat → Int32) (m : Nat) (l : Nat → Nat) (b : Nat) (F1 : Nat → Int32) (G1 : Nat → Int64) (A1 : Nat → Nat → Int32) (s : dS) : Prop := RS tb z F1 G1 (eS s) b ∧ F1 19 = nI m ∧ (∀ k, k < m → A1 18 k = nI (l k)) ∧ (∀ g, s = .inl g → ∀ k, k < 24 → A1 6 k = g k) ∧ frm LF F0 F1 ∧ frm [17] G0 G1 ∧ frm [6, 18] A0 A1
theorem eS_le {n d : Nat} {s : dS} (h : dok n d s) : eS s ≤ 6 := by
  rcases s with f | e
  · exact Nat.zero_le _
  · have := h.2 e rfl
    show e ≤ 6
    omega
theorem LSt_dj {tb : Nat → Nat} {z : Nat} {F0 F1 F2 : Nat → Int32} {G0 G1 : Nat → Int64} {A0 A1 A2 : Nat → Nat → Int32} {m b x y d : Nat} {l : Nat → Nat} {s : dS} (h : LSt tb z F0 G0 A0 m l b F1 G1 A1 s) (k1 : RS tb z F2 G1 (eS (dj d s x y)) b) (k2 : ∀ f, dj d s x y = .inl f → ∀ k, k < 24 → A2 6 k = f k) (k3 : frm [9, 10] F1 F2) (k4 : frm [6] A1 A2) : LSt tb z F0 G0 A0 m l b F2 G1 A2 (dj d s x y) :=
  ⟨k1, (k3.at 19 rfl).trans h.2.1, fun k hk => by rw [k4.at 18 rfl]; exact h.2.2.1 k hk, k2, h.2.2.2.2.1.tr k3 (by decide) (by decide), h.2.2.2.2.2.1, h.2.2.2.2.2.2.tr k4 (by decide) (by decide)⟩
theorem c_mclause (F0 : Nat → Int32) (G0 : Nat → Int64) (A0 : Nat → Nat → Int32) (B : Nat → Nat → Int64) (tb : Nat → Nat) (z n d c b : Nat) (f : Nat → Int32) (hz : z ≤ 400) (hb : b ≤ z) (htb : ∀ i, tb i < 256) (ht : ∀ i, i < z → A0 7 i = nI (tb i)) (hS : RS tb z F0 G0 0 b) (h4 : F0 4 = nI n) (h5 : F0 5 = nI d) (hf : nok n d f) (hA : ∀ k, k < 24 → A0 6 k = f k) (hc : c ≤ 20) : zCtr yX6_clause cX6_clause 5 none 3 0 0 [zr 1 0, zi (nI c)] [zH, zG F0 G0 A0 B] (fun r w => r = none ∧ ∃ F' G' A', w = [zH, zG F' G' A' B] ∧ RS tb z F' G' (clS tb z n d f c b).1 (clS tb z n d f c b).2.1 ∧ ((clS tb z n d f c b).1 = 0 → ∀ k, k < 24 → A' 6 k = (clS tb z n d f c b).2.2 k) ∧ frm LF F0 F' ∧ frm [17] G0 G' ∧ frm [6, 18] A0 A') zNx := by
  refine z_start (by decide) [some (zr 1 0), some (zi (nI c)), none, none, none] rfl (fun _ => Nat.le_of_ble_eq_true rfl) (fun _ => rfl) (fun X F E hno hin => ?_)
  have hn := hf.n24
  have hd := hf.d8
  -- a fault at once: the first word, or too many clauses
  have at19 : ∀ (e : Nat) (v : Int32) (F1 : Nat → Int32), (e = 0 ∨ e = 1) → (e = 0 → c = 20) → clS tb z n d f c b = (if e = 0 then 2 else 1, b, f) → RS tb z F1 G0 e b → frm [9, 10] F0 F1 → Z X [some (zr 1 0), some (zi (nI c)), some (zi v), none, none] [] [zH, zG F1 G0 A0 B] 0 0 19 := by
    intro e v F1 he hec hcl hS1 hF
    have fin : ∀ (F2 : Nat → Int32) (e2 : Nat), e2 = (if e = 0 then 2 else 1) → RS tb z F2 G0 e2 b → frm [9, 10] F0 F2 → Z X [some (zr 1 0), none, none, none, none] [] [zH, zG F2 G0 A0 B] 0 0 30 := by
      intro F2 e2 h2 hS2 hF2
      have hne : e2 ≠ 0 := by rw [h2]; split <;> omega
      have hle : e2 ≤ 6 := by rw [h2]; split <;> omega
      refine z_aload_n F dX6_clause_30 rfl ?_
      refine z_callV F (c_misGood F2 G0 A0 B e2 hle hS2.2.1) 0 rfl (lw_V q1804 q1806 qs54 q117 q1807) (by decide +kernel) ⟨Nat.le_of_ble_eq_true rfl, Nat.le_of_ble_eq_true rfl⟩ ⟨by omega, by omega⟩ [0, 1] 2 ⟨rfl, rfl, rfl, ⟨Or.inl rfl, Or.inr rfl, trivial⟩⟩ (fun h => nomatch h) (Nat.le_of_ble_eq_true rfl) ⟨⟨Or.inr trivial, Or.inl rfl, trivial⟩, rfl, rfl, rfl, Nat.le_of_ble_eq_true rfl⟩ rfl zC6 (zat_G0 rfl) rfl dX6_clause_31 (fun r_31 w_31 hp => ?_) (fun _ _ h => h.elim)
      obtain ⟨rfl, rfl⟩ := hp
      refine z_weq (w' := [zH, zG _ _ _ _]) rfl ?_
      refine z_seq (S' := zi _ :: _) rfl ?_
      refine z_if_neB F (tgt := 38) dX6_clause_34 (by decide) (fun c_34 => ?_) (fun c_34 => ?_)
      · exact absurd (of_decide_eq_true c_34) hne
      · exact z_vret F E rfl dX6_clause_37 (by omega) (by omega) (⟨rfl, F2, G0, A0, rfl, by rw [hcl, ← h2]; exact hS2, fun w => by rw [hcl, ← h2] at w; exact absurd w hne, hF2.to (by decide), frm.rf, frm.rf⟩)
    refine z_iload_n F dX6_clause_19 rfl ?_
    refine z_bipush F (nI 20) dX6_clause_20 rfl ?_
    refine z_icmp_neN F (by omega) (by omega) (tgt := 30) dX6_clause_22 (by decide) (fun c_22 => ?_) (fun c_22 => ?_)
    · have h1 : e = 1 := he.resolve_left (fun q => c_22 (hec q))
      refine z_loc _ ?_ (fin F1 e (by rw [h1]; rfl) hS1 hF)
      exact ⟨rfl, trivial⟩
    · refine z_aload_n F dX6_clause_25 rfl ?_
      refine z_iconst F (nI 2) dX6_clause_26 rfl ?_
      refine z_callV F (c_mwrong F1 G0 A0 B tb z e b 2 (by omega) hS1 (by decide)) 1 rfl (lw_V q1808 q1810 qs55 q117 q1811) (by decide +kernel) ⟨Nat.le_of_ble_eq_true rfl, Nat.le_of_ble_eq_true rfl⟩ ⟨by omega, by omega⟩ [0, 1] 2 ⟨rfl, rfl, rfl, ⟨Or.inl rfl, Or.inr rfl, trivial⟩⟩ (fun h => nomatch h) (Nat.le_of_ble_eq_true rfl) ⟨⟨Or.inr trivial, Or.inl rfl, trivial⟩, rfl, rfl, rfl, Nat.le_of_ble_eq_true rfl⟩ rfl zC6 (zat_G0 rfl) rfl dX6_clause_27 (fun r_27 w_27 hp => ?_) (fun _ _ h => h.elim)
      obtain ⟨rfl, F2, rfl, k1, k2⟩ := hp
      refine z_weq (w' := [zH, zG _ _ _ _]) rfl ?_
      refine z_seq (S' := []) rfl ?_
      refine z_loc _ ?_ (fin F2 _ (by rcases he with q | q <;> rw [q] <;> rfl) k1 (hF.tr k2 (by decide) (by decide)))
      exact ⟨rfl, trivial⟩
  rcases hk : kwI tb z b with _ | i
  · have ekw : kwR tb z b = -1 := by unfold kwR; rw [hk]; rfl
    have hcl : clS tb z n d f c b = (1, b, f) := by unfold clS; rw [hk]
    refine z_aload_n F dX6_clause_0 rfl ?_
    refine z_callV F (c_mknown F0 G0 A0 B tb z b hz hb hS.1) 0 rfl (lw_V q1793 q1795 qs52 q117 q1796) (by decide +kernel) ⟨Nat.le_of_ble_eq_true rfl, Nat.le_of_ble_eq_true rfl⟩ ⟨by omega, by omega⟩ [0, 1] 2 ⟨rfl, rfl, rfl, ⟨Or.inl rfl, Or.inr rfl, trivial⟩⟩ (fun h => nomatch h) (Nat.le_of_ble_eq_true rfl) ⟨⟨Or.inr trivial, Or.inl rfl, trivial⟩, rfl, rfl, rfl, Nat.le_of_ble_eq_true rfl⟩ rfl zC6 (zat_G0 rfl) rfl dX6_clause_1 (fun r_1 w_1 hp => ?_) (fun _ _ h => h.elim)
    obtain ⟨rfl, rfl⟩ := hp
    rw [ekw]
    refine z_weq (w' := [zH, zG _ _ _ _]) rfl ?_
    refine z_seq (S' := zi _ :: _) rfl ?_
    refine z_istore_n F dX6_clause_4 (Nat.le_of_ble_eq_true rfl) ?_
    refine z_leq (L' := [_, _, _, _, _]) rfl ?_
    refine z_iload_n F dX6_clause_5 rfl ?_
    refine z_if_lt F (tgt := 14) dX6_clause_6 (by decide) (fun c_6 => ?_) (fun c_6 => ?_)
    · refine z_aload_n F dX6_clause_14 rfl ?_
      refine z_iconst F (nI 1) dX6_clause_15 rfl ?_
      refine z_callV F (c_mwrong F0 G0 A0 B tb z 0 b 1 (by omega) hS (by decide)) 1 rfl (lw_V q1808 q1810 qs55 q117 q1811) (by decide +kernel) ⟨Nat.le_of_ble_eq_true rfl, Nat.le_of_ble_eq_true rfl⟩ ⟨by omega, by omega⟩ [0, 1] 2 ⟨rfl, rfl, rfl, ⟨Or.inl rfl, Or.inr rfl, trivial⟩⟩ (fun h => nomatch h) (Nat.le_of_ble_eq_true rfl) ⟨⟨Or.inr trivial, Or.inl rfl, trivial⟩, rfl, rfl, rfl, Nat.le_of_ble_eq_true rfl⟩ rfl zC6 (zat_G0 rfl) rfl dX6_clause_16 (fun r_16 w_16 hp => ?_) (fun _ _ h => h.elim)
      obtain ⟨rfl, F2, rfl, k1, k2⟩ := hp
      refine z_weq (w' := [zH, zG _ _ _ _]) rfl ?_
      refine z_seq (S' := []) rfl ?_
      exact at19 1 _ F2 (Or.inr rfl) (fun q => absurd q (by omega)) (by rw [hcl]; rfl) k1 k2
    · exact absurd (by decide) c_6
  have hi7 := (kwI_some.mp hk).1
  have ekw : kwR tb z b = nI i := by unfold kwR; rw [hk]; rfl
  by_cases hi4 : 4 < i
  · have hcl : clS tb z n d f c b = (1, b, f) := by unfold clS; rw [hk]; exact if_pos hi4
    refine z_aload_n F dX6_clause_0 rfl ?_
    refine z_callV F (c_mknown F0 G0 A0 B tb z b hz hb hS.1) 0 rfl (lw_V q1793 q1795 qs52 q117 q1796) (by decide +kernel) ⟨Nat.le_of_ble_eq_true rfl, Nat.le_of_ble_eq_true rfl⟩ ⟨by omega, by omega⟩ [0, 1] 2 ⟨rfl, rfl, rfl, ⟨Or.inl rfl, Or.inr rfl, trivial⟩⟩ (fun h => nomatch h) (Nat.le_of_ble_eq_true rfl) ⟨⟨Or.inr trivial, Or.inl rfl, trivial⟩, rfl, rfl, rfl, Nat.le_of_ble_eq_true rfl⟩ rfl zC6 (zat_G0 rfl) rfl dX6_clause_1 (fun r_1 w_1 hp => ?_) (fun _ _ h => h.elim)
    obtain ⟨rfl, rfl⟩ := hp
    rw [ekw]
    refine z_weq (w' := [zH, zG _ _ _ _]) rfl ?_
    refine z_seq (S' := zi _ :: _) rfl ?_
    refine z_istore_n F dX6_clause_4 (Nat.le_of_ble_eq_true rfl) ?_
    refine z_leq (L' := [_, _, _, _, _]) rfl ?_
    refine z_iload_n F dX6_clause_5 rfl ?_
    refine z_if_ltN F (by omega) (tgt := 14) dX6_clause_6 (by decide) (fun c_6 => ?_) (fun c_6 => ?_)
    · exact absurd c_6 (by omega)
    · refine z_iload_n F dX6_clause_9 rfl ?_
      refine z_iconst F (nI 4) dX6_clause_10 rfl ?_
      refine z_icmp_leN F (by omega) (by omega) (tgt := 19) dX6_clause_11 (by decide) (fun c_11 => ?_) (fun c_11 => ?_)
      · exact absurd c_11 (by omega)
      · refine z_aload_n F dX6_clause_14 rfl ?_
        refine z_iconst F (nI 1) dX6_clause_15 rfl ?_
        refine z_callV F (c_mwrong F0 G0 A0 B tb z 0 b 1 (by omega) hS (by decide)) 1 rfl (lw_V q1808 q1810 qs55 q117 q1811) (by decide +kernel) ⟨Nat.le_of_ble_eq_true rfl, Nat.le_of_ble_eq_true rfl⟩ ⟨by omega, by omega⟩ [0, 1] 2 ⟨rfl, rfl, rfl, ⟨Or.inl rfl, Or.inr rfl, trivial⟩⟩ (fun h => nomatch h) (Nat.le_of_ble_eq_true rfl) ⟨⟨Or.inr trivial, Or.inl rfl, trivial⟩, rfl, rfl, rfl, Nat.le_of_ble_eq_true rfl⟩ rfl zC6 (zat_G0 rfl) rfl dX6_clause_16 (fun r_16 w_16 hp => ?_) (fun _ _ h => h.elim)
        obtain ⟨rfl, F2, rfl, k1, k2⟩ := hp
        refine z_weq (w' := [zH, zG _ _ _ _]) rfl ?_
        refine z_seq (S' := []) rfl ?_
        exact at19 1 _ F2 (Or.inr rfl) (fun q => absurd q (by omega)) (by rw [hcl]; rfl) k1 k2
  by_cases hc20 : c = 20
  · have hcl : clS tb z n d f c b = (2, b, f) := by unfold clS; rw [hk]; exact (if_neg hi4).trans (if_pos hc20)
    refine z_aload_n F dX6_clause_0 rfl ?_
    refine z_callV F (c_mknown F0 G0 A0 B tb z b hz hb hS.1) 0 rfl (lw_V q1793 q1795 qs52 q117 q1796) (by decide +kernel) ⟨Nat.le_of_ble_eq_true rfl, Nat.le_of_ble_eq_true rfl⟩ ⟨by omega, by omega⟩ [0, 1] 2 ⟨rfl, rfl, rfl, ⟨Or.inl rfl, Or.inr rfl, trivial⟩⟩ (fun h => nomatch h) (Nat.le_of_ble_eq_true rfl) ⟨⟨Or.inr trivial, Or.inl rfl, trivial⟩, rfl, rfl, rfl, Nat.le_of_ble_eq_true rfl⟩ rfl zC6 (zat_G0 rfl) rfl dX6_clause_1 (fun r_1 w_1 hp => ?_) (fun _ _ h => h.elim)
    obtain ⟨rfl, rfl⟩ := hp
    rw [ekw]
    refine z_weq (w' := [zH, zG _ _ _ _]) rfl ?_
    refine z_seq (S' := zi _ :: _) rfl ?_
    refine z_istore_n F dX6_clause_4 (Nat.le_of_ble_eq_true rfl) ?_
    refine z_leq (L' := [_, _, _, _, _]) rfl ?_
    refine z_iload_n F dX6_clause_5 rfl ?_
    refine z_if_ltN F (by omega) (tgt := 14) dX6_clause_6 (by decide) (fun c_6 => ?_) (fun c_6 => ?_)
    · exact absurd c_6 (by omega)
    · refine z_iload_n F dX6_clause_9 rfl ?_
      refine z_iconst F (nI 4) dX6_clause_10 rfl ?_
      refine z_icmp_leN F (by omega) (by omega) (tgt := 19) dX6_clause_11 (by decide) (fun c_11 => ?_) (fun c_11 => ?_)
      · exact at19 0 _ F0 (Or.inl rfl) (fun _ => hc20) (by rw [hcl]; rfl) hS frm.rf
      · exact absurd c_11 (by omega)
  have hcl : clS tb z n d f c b = clE tb z d i f (clK tb z n i b) := by unfold clS; rw [hk]; exact (if_neg hi4).trans (if_neg hc20)
  obtain ⟨ck1, ck2, ck3⟩ := clK_ok (tb := tb) (z := z) (n := n) (i := i) hb
  have ck4 := clK_2 (tb := tb) (z := z) (n := n) (i := i) (b := b)
  -- the lines
  have lines : ∀ (b1 m : Nat) (l : Nat → Nat), clK tb z n i b = (0, b1, l, m) → kd tb z b1 = 3 → ∀ (F1 : Nat → Int32) (G1 : Nat → Int64) (A1 : Nat → Nat → Int32), LSt tb z F0 G0 A0 m l b1 F1 G1 A1 (.inl f) → Z X [some (zr 1 0), none, some (zi (nI i)), none, none] [] [zH, zG F1 G1 A1 B] 0 0 110 := by
    intro b1 m l hcK hkd3 F1 G1 A1 hL0
    rw [hcK] at ck1 ck2 ck4 hcl
    have hb1 : b1 ≤ z := ck1
    have hl : lok n l m := ck2
    have hm2 : 2 ≤ m := ck4 rfl
    have hm12 := hl.2.2
    have hcl2 : clS tb z n d f c b = (match lnR d i l m f with | .inr e => (e, b1, f) | .inl g => (0, nb tb z b1, g)) := by
      rw [hcl]; unfold clE; rw [if_neg (fun w => w rfl), if_neg (by show ¬ kd tb z b1 ≠ 3; omega)]; rfl
    have hok := lnR_ok (i := i) hf hl hm2
    have hne : ∀ x y, x < m → y < m → x ≠ y → l x ≠ l y := fun x y h1 h2 h3 h4 => h3 (hl.2.1 x y h1 h2 h4)
    have e322 : ∀ (s : dS) (F2 : Nat → Int32) (G2 : Nat → Int64) (A2 : Nat → Nat → Int32), s = lnR d i l m f → LSt tb z F0 G0 A0 m l b1 F2 G2 A2 s → Z X [some (zr 1 0), none, some (zi (nI i)), none, none] [] [zH, zG F2 G2 A2 B] 0 0 322 := by
      intro s F2 G2 A2 hs hL
      rw [← hs] at hcl2 hok
      obtain ⟨k1, k2, k3, k4, k5, k6, k7⟩ := hL
      rcases s with g | e
      · skip
        refine z_aload_n F dX6_clause_322 rfl ?_
        refine z_callV F (c_misGood F2 G2 A2 B 0 (by omega) k1.2.1) 0 rfl (lw_V q1804 q1806 qs54 q117 q1807) (by decide +kernel) ⟨Nat.le_of_ble_eq_true rfl, Nat.le_of_ble_eq_true rfl⟩ ⟨by omega, by omega⟩ [0, 1] 2 ⟨rfl, rfl, rfl, ⟨Or.inl rfl, Or.inr rfl, trivial⟩⟩ (fun h => nomatch h) (Nat.le_of_ble_eq_true rfl) ⟨⟨Or.inr trivial, Or.inl rfl, trivial⟩, rfl, rfl, rfl, Nat.le_of_ble_eq_true rfl⟩ rfl zC6 (zat_G0 rfl) rfl dX6_clause_323 (fun r_323 w_323 hp => ?_) (fun _ _ h => h.elim)
        obtain ⟨rfl, rfl⟩ := hp
        refine z_weq (w' := [zH, zG _ _ _ _]) rfl ?_
        refine z_seq (S' := zi _ :: _) rfl ?_
        refine z_if_eqB F (tgt := 333) dX6_clause_326 (by decide) (fun c_326 => ?_) (fun c_326 => ?_)
        · cases c_326
        · refine z_aload_n F dX6_clause_329 rfl ?_
          refine z_callV F (c_mrdGo F2 G2 A2 B tb z (en tb z b1) hz ((en_ge tb z b1).2 hb1) htb k1.1.1 k1.1.2.1 (fun i hi => by rw [k7.at 7 rfl]; exact ht i hi)) 0 rfl (lw_V q1779 q1781 qs50 q117 q1782) (by decide +kernel) ⟨Nat.le_of_ble_eq_true rfl, Nat.le_of_ble_eq_true rfl⟩ ⟨by omega, by omega⟩ [0, 1] 2 ⟨rfl, rfl, rfl, ⟨Or.inl rfl, Or.inr rfl, trivial⟩⟩ (fun h => nomatch h) (Nat.le_of_ble_eq_true rfl) ⟨⟨Or.inr trivial, Or.inl rfl, trivial⟩, rfl, rfl, rfl, Nat.le_of_ble_eq_true rfl⟩ rfl zC6 (zat_G0 rfl) rfl dX6_clause_330 (fun r_330 w_330 hp => ?_) (fun _ _ h => h.elim)
          obtain ⟨rfl, F3, G3, rfl, m1, m2, m3⟩ := hp
          refine z_weq (w' := [zH, zG _ _ _ _]) rfl ?_
          refine z_seq (S' := []) rfl ?_
          exact z_vret F E rfl dX6_clause_333 (by omega) (by omega) (⟨rfl, F3, G3, A2, rfl, by rw [hcl2]; exact ⟨m1, by rw [m2.at 9 rfl]; exact k1.2.1, fun w => absurd rfl w, fun _ => (m2.at 10 rfl).trans (k1.2.2.2 rfl)⟩, fun _ => by rw [hcl2]; exact k4 g rfl, k5.tr m2 (by decide) (by decide), k6.tr m3 (by decide) (by decide), k7⟩)
      · have he := hok.2 e rfl
        refine z_aload_n F dX6_clause_322 rfl ?_
        refine z_callV F (c_misGood F2 G2 A2 B e (by omega) k1.2.1) 0 rfl (lw_V q1804 q1806 qs54 q117 q1807) (by decide +kernel) ⟨Nat.le_of_ble_eq_true rfl, Nat.le_of_ble_eq_true rfl⟩ ⟨by omega, by omega⟩ [0, 1] 2 ⟨rfl, rfl, rfl, ⟨Or.inl rfl, Or.inr rfl, trivial⟩⟩ (fun h => nomatch h) (Nat.le_of_ble_eq_true rfl) ⟨⟨Or.inr trivial, Or.inl rfl, trivial⟩, rfl, rfl, rfl, Nat.le_of_ble_eq_true rfl⟩ rfl zC6 (zat_G0 rfl) rfl dX6_clause_323 (fun r_323 w_323 hp => ?_) (fun _ _ h => h.elim)
        obtain ⟨rfl, rfl⟩ := hp
        refine z_weq (w' := [zH, zG _ _ _ _]) rfl ?_
        refine z_seq (S' := zi _ :: _) rfl ?_
        refine z_if_eqB F (tgt := 333) dX6_clause_326 (by decide) (fun c_326 => ?_) (fun c_326 => ?_)
        · exact z_vret F E rfl dX6_clause_333 (by omega) (by omega) (⟨rfl, F2, G2, A2, rfl, by rw [hcl2]; exact k1, fun w => by rw [hcl2] at w; exact absurd w (by show ¬ e = 0; omega), k5, k6, k7⟩)
        · exact absurd (of_decide_eq_true c_326) (by omega)
    have p269 : i ≠ 4 → ∀ (F2 : Nat → Int32) (G2 : Nat → Int64) (A2 : Nat → Nat → Int32), Z X [some (zr 1 0), none, some (zi (nI i)), none, none] [] [zH, zG F2 G2 A2 B] 0 0 322 → Z X [some (zr 1 0), none, some (zi (nI i)), none, none] [] [zH, zG F2 G2 A2 B] 0 0 269 := by
      intro q F2 G2 A2 kk
      refine z_iload_n F dX6_clause_269 rfl ?_
      refine z_iconst F (nI 4) dX6_clause_270 rfl ?_
      refine z_icmp_neN F (by omega) (by omega) (tgt := 312) dX6_clause_271 (by decide) (fun c_271 => ?_) (fun c_271 => ?_)
      · refine z_iload_n F dX6_clause_312 rfl ?_
        refine z_iconst F (nI 4) dX6_clause_313 rfl ?_
        refine z_icmp_neN F (by omega) (by omega) (tgt := 322) dX6_clause_314 (by decide) (fun c_314 => ?_) (fun c_314 => ?_)
        · exact kk
        · exact absurd c_314 (by omega)
      · exact absurd c_271 (by omega)
    have p232 : i ≠ 3 → ∀ (F2 : Nat → Int32) (G2 : Nat → Int64) (A2 : Nat → Nat → Int32), F2 19 = nI m → Z X [some (zr 1 0), none, some (zi (nI i)), none, none] [] [zH, zG F2 G2 A2 B] 0 0 269 → Z X [some (zr 1 0), none, some (zi (nI i)), none, none] [] [zH, zG F2 G2 A2 B] 0 0 232 := by
      intro q F2 G2 A2 g19 kk
      refine z_iconst F (nI 1) dX6_clause_232 rfl ?_
      refine z_istore_n F dX6_clause_233 (Nat.le_of_ble_eq_true rfl) ?_
      refine z_leq (L' := [_, _, _, _, _]) rfl ?_
      refine z_iload_n F dX6_clause_234 rfl ?_
      refine z_aload_n F dX6_clause_235 rfl ?_
      refine z_mi F rfl 19 rfl (Nat.le_of_ble_eq_true rfl) rfl q1499 dX6_clause_236 ?_
      refine z_ieq (g19) ?_
      refine z_icmp_geN F (by omega) (by omega) (tgt := 269) dX6_clause_239 (by decide) (fun c_239 => ?_) (fun c_239 => ?_)
      · exact absurd c_239 (by omega)
      · refine z_iload_n F dX6_clause_242 rfl ?_
        refine z_iconst F (nI 3) dX6_clause_243 rfl ?_
        refine z_icmp_neN F (by omega) (by omega) (tgt := 269) dX6_clause_244 (by decide) (fun c_244 => ?_) (fun c_244 => ?_)
        · refine z_loc _ ?_ kk
          exact ⟨rfl, rfl, trivial⟩
        · exact absurd c_244 (by omega)
    have p179 : i ≠ 2 → ∀ (F2 : Nat → Int32) (G2 : Nat → Int64) (A2 : Nat → Nat → Int32), F2 19 = nI m → Z X [some (zr 1 0), none, some (zi (nI i)), none, none] [] [zH, zG F2 G2 A2 B] 0 0 232 → Z X [some (zr 1 0), none, some (zi (nI i)), none, none] [] [zH, zG F2 G2 A2 B] 0 0 179 := by
      intro q F2 G2 A2 g19 kk
      refine z_iconst F (nI 1) dX6_clause_179 rfl ?_
      refine z_istore_n F dX6_clause_180 (Nat.le_of_ble_eq_true rfl) ?_
      refine z_leq (L' := [_, _, _, _, _]) rfl ?_
      refine z_iload_n F dX6_clause_181 rfl ?_
      refine z_aload_n F dX6_clause_182 rfl ?_
      refine z_mi F rfl 19 rfl (Nat.le_of_ble_eq_true rfl) rfl q1499 dX6_clause_183 ?_
      refine z_ieq (g19) ?_
      refine z_icmp_geN F (by omega) (by omega) (tgt := 232) dX6_clause_186 (by decide) (fun c_186 => ?_) (fun c_186 => ?_)
      · exact absurd c_186 (by omega)
      · refine z_iload_n F dX6_clause_189 rfl ?_
        refine z_iconst F (nI 2) dX6_clause_190 rfl ?_
        refine z_icmp_neN F (by omega) (by omega) (tgt := 232) dX6_clause_191 (by decide) (fun c_191 => ?_) (fun c_191 => ?_)
        · refine z_loc _ ?_ kk
          exact ⟨rfl, rfl, trivial⟩
        · exact absurd c_191 (by omega)
    have all_ : i ≠ 2 → i ≠ 3 → i ≠ 4 → ∀ (s : dS) (F2 : Nat → Int32) (G2 : Nat → Int64) (A2 : Nat → Nat → Int32), s = lnR d i l m f → LSt tb z F0 G0 A0 m l b1 F2 G2 A2 s → Z X [some (zr 1 0), none, some (zi (nI i)), none, none] [] [zH, zG F2 G2 A2 B] 0 0 179 := fun q2 q3 q4 s F2 G2 A2 hs hL => p179 q2 F2 G2 A2 hL.2.1 (p232 q3 F2 G2 A2 hL.2.1 (p269 q4 F2 G2 A2 (e322 s F2 G2 A2 hs hL)))
    -- rows and rings
    have row0 : i = 0 → ∀ (F2 : Nat → Int32) (G2 : Nat → Int64) (A2 : Nat → Nat → Int32), LSt tb z F0 G0 A0 m l b1 F2 G2 A2 (drow d f l (m - 1)) → Z X [some (zr 1 0), none, some (zi (nI i)), none, none] [] [zH, zG F2 G2 A2 B] 0 0 153 := by
      intro q F2 G2 A2 hL
      refine z_iload_n F dX6_clause_153 rfl ?_
      refine z_iconst F (nI 1) dX6_clause_154 rfl ?_
      refine z_icmp_neN F (by omega) (by omega) (tgt := 179) dX6_clause_155 (by decide) (fun c_155 => ?_) (fun c_155 => ?_)
      · exact all_ (by omega) (by omega) (by omega) _ F2 G2 A2 (by unfold lnR; rw [if_pos q]) hL
      · exact absurd c_155 (by omega)
    have row1 : i = 1 → ∀ (F2 : Nat → Int32) (G2 : Nat → Int64) (A2 : Nat → Nat → Int32), LSt tb z F0 G0 A0 m l b1 F2 G2 A2 (drow d f l (m - 1)) → Z X [some (zr 1 0), none, some (zi (nI i)), none, none] [] [zH, zG F2 G2 A2 B] 0 0 153 := by
      intro q F2 G2 A2 hL
      have hok2 := drow_ok (d := d) hf hl.1 (m - 1) (by omega)
      obtain ⟨k1, k2, k3, k4, k5, k6, k7⟩ := id hL
      refine z_iload_n F dX6_clause_153 rfl ?_
      refine z_iconst F (nI 1) dX6_clause_154 rfl ?_
      refine z_icmp_neN F (by omega) (by omega) (tgt := 179) dX6_clause_155 (by decide) (fun c_155 => ?_) (fun c_155 => ?_)
      · exact absurd c_155 (by omega)
      · refine z_aload_n F dX6_clause_158 rfl ?_
        refine z_aload_n F dX6_clause_159 rfl ?_
        refine z_ma F rfl 18 rfl (Nat.le_of_ble_eq_true rfl) rfl q1498 dX6_clause_160 ?_
        refine z_aload_n F dX6_clause_163 rfl ?_
        refine z_mi F rfl 19 rfl (Nat.le_of_ble_eq_true rfl) rfl q1499 dX6_clause_164 ?_
        refine z_ieq (k2) ?_
        refine z_iconst F (nI 1) dX6_clause_167 rfl ?_
        refine z_isubN F (by omega) dX6_clause_168 ?_
        refine z_ialdGN F rfl rfl (Nat.le_of_ble_eq_true rfl) (by omega) rfl dX6_clause_169 ?_
        refine z_ieq (k3 (m - 1) (by omega)) ?_
        refine z_aload_n F dX6_clause_170 rfl ?_
        refine z_ma F rfl 18 rfl (Nat.le_of_ble_eq_true rfl) rfl q1498 dX6_clause_171 ?_
        refine z_iconst F (nI 0) dX6_clause_174 rfl ?_
        refine z_ialdGN F rfl rfl (Nat.le_of_ble_eq_true rfl) (by omega) rfl dX6_clause_175 ?_
        refine z_ieq (k3 0 (by omega)) ?_
        refine z_callV F (c_mdraw F2 G2 A2 B tb z n d b1 (l (m - 1)) (l 0) _ hok2 hn hd (hl.1 _ (by omega)) (hl.1 _ (by omega)) (hne (m - 1) 0 (by omega) (by omega) (by omega)) k1 ((k5.at 5 rfl).trans h5) k4) 2 rfl (lw_V q1824 q1826 qs59 q117 q1827) (by decide +kernel) ⟨Nat.le_of_ble_eq_true rfl, Nat.le_of_ble_eq_true rfl⟩ ⟨by omega, by omega⟩ [0, 1] 2 ⟨rfl, rfl, rfl, ⟨Or.inl rfl, Or.inr rfl, trivial⟩⟩ (fun h => nomatch h) (Nat.le_of_ble_eq_true rfl) ⟨⟨Or.inr trivial, Or.inl rfl, trivial⟩, rfl, rfl, rfl, Nat.le_of_ble_eq_true rfl⟩ rfl zC6 (zat_G0 rfl) rfl dX6_clause_176 (fun r_176 w_176 hp => ?_) (fun _ _ h => h.elim)
        obtain ⟨rfl, F3, A3, rfl, m1, m2, m3, m4⟩ := hp
        refine z_weq (w' := [zH, zG _ _ _ _]) rfl ?_
        refine z_seq (S' := []) rfl ?_
        exact all_ (by omega) (by omega) (by omega) _ F3 G2 A3 (by unfold lnR; rw [if_neg (by omega), if_pos q]) (LSt_dj hL m1 m2 m3 m4)
    have rows : (i = 0 ∨ i = 1) → ∀ (u k : Nat) (F2 : Nat → Int32) (G2 : Nat → Int64) (A2 : Nat → Nat → Int32), m - (k + 1) < u → k + 1 ≤ m → LSt tb z F0 G0 A0 m l b1 F2 G2 A2 (drow d f l k) → Z X [some (zr 1 0), none, some (zi (nI i)), some (zi (nI (k + 1))), none] [] [zH, zG F2 G2 A2 B] 0 0 112 := by
      intro hi01 u
      induction u with
      | zero => intro k F2 G2 A2 hu; omega
      | succ u ih =>
        intro k F2 G2 A2 hu hk hL
        have hok2 := drow_ok (d := d) hf hl.1 k hk
        obtain ⟨k1, k2, k3, k4, k5, k6, k7⟩ := id hL
        have step : k + 1 < m → Z X [some (zr 1 0), none, some (zi (nI i)), some (zi (nI (k + 1))), none] [] [zH, zG F2 G2 A2 B] 0 0 129 := by
          intro hkm
          have a1 := k3 k (by omega)
          have a2 := k3 (k + 1) hkm
          refine z_aload_n F dX6_clause_129 rfl ?_
          refine z_aload_n F dX6_clause_130 rfl ?_
          refine z_ma F rfl 18 rfl (Nat.le_of_ble_eq_true rfl) rfl q1498 dX6_clause_131 ?_
          refine z_iload_n F dX6_clause_134 rfl ?_
          refine z_iconst F (nI 1) dX6_clause_135 rfl ?_
          refine z_isubN F (by omega) dX6_clause_136 ?_
          refine z_ieq (congrArg nI (show k + 1 - 1 = k by omega)) ?_
          refine z_ialdGN F rfl rfl (Nat.le_of_ble_eq_true rfl) (by omega) rfl dX6_clause_137 ?_
          refine z_ieq (a1) ?_
          refine z_aload_n F dX6_clause_138 rfl ?_
          refine z_ma F rfl 18 rfl (Nat.le_of_ble_eq_true rfl) rfl q1498 dX6_clause_139 ?_
          refine z_iload_n F dX6_clause_142 rfl ?_
          refine z_ialdGN F rfl rfl (Nat.le_of_ble_eq_true rfl) (by omega) rfl dX6_clause_143 ?_
          refine z_ieq (a2) ?_
          refine z_callV F (c_mdraw F2 G2 A2 B tb z n d b1 (l k) (l (k + 1)) _ hok2 hn hd (hl.1 k (by omega)) (hl.1 (k + 1) hkm) (hne k (k + 1) (by omega) hkm (by omega)) k1 ((k5.at 5 rfl).trans h5) k4) 2 rfl (lw_V q1824 q1826 qs59 q117 q1827) (by decide +kernel) ⟨Nat.le_of_ble_eq_true rfl, Nat.le_of_ble_eq_true rfl⟩ ⟨by omega, by omega⟩ [0, 1] 2 ⟨rfl, rfl, rfl, ⟨Or.inl rfl, Or.inr rfl, trivial⟩⟩ (fun h => nomatch h) (Nat.le_of_ble_eq_true rfl) ⟨⟨Or.inr trivial, Or.inl rfl, trivial⟩, rfl, rfl, rfl, Nat.le_of_ble_eq_true rfl⟩ rfl zC6 (zat_G0 rfl) rfl dX6_clause_144 (fun r_144 w_144 hp => ?_) (fun _ _ h => h.elim)
          obtain ⟨rfl, F3, A3, rfl, m1, m2, m3, m4⟩ := hp
          refine z_weq (w' := [zH, zG _ _ _ _]) rfl ?_
          refine z_seq (S' := []) rfl ?_
          refine z_iincN F 1 dX6_clause_147 rfl rfl ?_
          refine z_leq (L' := [_, _, _, _, _]) rfl ?_
          refine z_goto F (tgt := 112) dX6_clause_150 (by decide) ?_
          exact ih (k + 1) F3 G2 A3 (by omega) (by omega) (LSt_dj hL m1 m2 m3 m4)
        refine z_iload_n F dX6_clause_112 rfl ?_
        refine z_aload_n F dX6_clause_113 rfl ?_
        refine z_mi F rfl 19 rfl (Nat.le_of_ble_eq_true rfl) rfl q1499 dX6_clause_114 ?_
        refine z_ieq (k2) ?_
        refine z_icmp_geN F (by omega) (by omega) (tgt := 153) dX6_clause_117 (by decide) (fun c_117 => ?_) (fun c_117 => ?_)
        · have ek : k + 1 = m := by omega
          refine z_loc [some (zr 1 0), none, some (zi (nI i)), none, none] ⟨rfl, rfl, trivial⟩ ?_
          rcases hi01 with q0 | q1
          · exact row0 q0 F2 G2 A2 (by rw [show m - 1 = k by omega]; exact hL)
          · exact row1 q1 F2 G2 A2 (by rw [show m - 1 = k by omega]; exact hL)
        · refine z_iload_n F dX6_clause_120 rfl ?_
          refine z_if_eqN F (by omega) (tgt := 129) dX6_clause_121 (by decide) (fun c_121 => ?_) (fun c_121 => ?_)
          · exact step (by omega)
          · refine z_iload_n F dX6_clause_124 rfl ?_
            refine z_iconst F (nI 1) dX6_clause_125 rfl ?_
            refine z_icmp_neN F (by omega) (by omega) (tgt := 153) dX6_clause_126 (by decide) (fun c_126 => ?_) (fun c_126 => ?_)
            · exact absurd c_126 (by omega)
            · exact step (by omega)
    -- all
    have allI : i = 2 → ∀ (u k : Nat) (F2 : Nat → Int32) (G2 : Nat → Int64) (A2 : Nat → Nat → Int32), m - (k + 1) < u → k + 1 ≤ m → LSt tb z F0 G0 A0 m l b1 F2 G2 A2 (dall d f l k) → Z X [some (zr 1 0), none, some (zi (nI i)), some (zi (nI (k + 1))), none] [] [zH, zG F2 G2 A2 B] 0 0 181 := by
      intro q u
      induction u with
      | zero => intro k F2 G2 A2 hu; omega
      | succ u ih =>
        intro k F2 G2 A2 hu hk hL
        have inn : k + 1 < m → ∀ (u2 j : Nat) (F3 : Nat → Int32) (A3 : Nat → Nat → Int32), k + 1 - j < u2 → j ≤ k + 1 → LSt tb z F0 G0 A0 m l b1 F3 G2 A3 (dalr d (dall d f l k) l (k + 1) j) → Z X [some (zr 1 0), none, some (zi (nI i)), some (zi (nI (k + 1))), some (zi (nI j))] [] [zH, zG F3 G2 A3 B] 0 0 197 := by
          intro hkm u2
          induction u2 with
          | zero => intro j F3 A3 hu2; omega
          | succ u2 ih2 =>
            intro j F3 A3 hu2 hj hL3
            have hok2 := dalr_ok (d := d) (dall_ok (d := d) hf hl.1 k (by omega)) hl.1 hkm j (by omega)
            obtain ⟨k1, k2, k3, k4, k5, k6, k7⟩ := id hL3
            refine z_iload F dX6_clause_197 rfl ?_
            refine z_iload_n F dX6_clause_199 rfl ?_
            refine z_icmp_geN F (by omega) (by omega) (tgt := 226) dX6_clause_200 (by decide) (fun c_200 => ?_) (fun c_200 => ?_)
            · have ej : j = k + 1 := by omega
              subst ej
              refine z_iincN F 1 dX6_clause_226 rfl rfl ?_
              refine z_leq (L' := [_, _, _, _, _]) rfl ?_
              refine z_goto F (tgt := 181) dX6_clause_229 (by decide) ?_
              refine z_loc _ ?_ (ih (k + 1) F3 G2 A3 (by omega) (by omega) hL3)
              exact ⟨rfl, rfl, rfl, trivial⟩
            · refine z_aload_n F dX6_clause_203 rfl ?_
              refine z_aload_n F dX6_clause_204 rfl ?_
              refine z_ma F rfl 18 rfl (Nat.le_of_ble_eq_true rfl) rfl q1498 dX6_clause_205 ?_
              refine z_iload F dX6_clause_208 rfl ?_
              refine z_ialdGN F rfl rfl (Nat.le_of_ble_eq_true rfl) (by omega) rfl dX6_clause_210 ?_
              refine z_ieq (k3 j (by omega)) ?_
              refine z_aload_n F dX6_clause_211 rfl ?_
              refine z_ma F rfl 18 rfl (Nat.le_of_ble_eq_true rfl) rfl q1498 dX6_clause_212 ?_
              refine z_iload_n F dX6_clause_215 rfl ?_
              refine z_ialdGN F rfl rfl (Nat.le_of_ble_eq_true rfl) (by omega) rfl dX6_clause_216 ?_
              refine z_ieq (k3 (k + 1) hkm) ?_
              refine z_callV F (c_mdraw F3 G2 A3 B tb z n d b1 (l j) (l (k + 1)) _ hok2 hn hd (hl.1 j (by omega)) (hl.1 (k + 1) hkm) (hne j (k + 1) (by omega) hkm (by omega)) k1 ((k5.at 5 rfl).trans h5) k4) 2 rfl (lw_V q1824 q1826 qs59 q117 q1827) (by decide +kernel) ⟨Nat.le_of_ble_eq_true rfl, Nat.le_of_ble_eq_true rfl⟩ ⟨by omega, by omega⟩ [0, 1] 2 ⟨rfl, rfl, rfl, ⟨Or.inl rfl, Or.inr rfl, trivial⟩⟩ (fun h => nomatch h) (Nat.le_of_ble_eq_true rfl) ⟨⟨Or.inr trivial, Or.inl rfl, trivial⟩, rfl, rfl, rfl, Nat.le_of_ble_eq_true rfl⟩ rfl zC6 (zat_G0 rfl) rfl dX6_clause_217 (fun r_217 w_217 hp => ?_) (fun _ _ h => h.elim)
              obtain ⟨rfl, F4, A4, rfl, m1, m2, m3, m4⟩ := hp
              refine z_weq (w' := [zH, zG _ _ _ _]) rfl ?_
              refine z_seq (S' := []) rfl ?_
              refine z_iincN F 1 dX6_clause_220 rfl rfl ?_
              refine z_leq (L' := [_, _, _, _, _]) rfl ?_
              refine z_goto F (tgt := 197) dX6_clause_223 (by decide) ?_
              exact ih2 (j + 1) F4 A4 (by omega) (by omega) (LSt_dj hL3 m1 m2 m3 m4)
        refine z_iload_n F dX6_clause_181 rfl ?_
        refine z_aload_n F dX6_clause_182 rfl ?_
        refine z_mi F rfl 19 rfl (Nat.le_of_ble_eq_true rfl) rfl q1499 dX6_clause_183 ?_
        refine z_ieq (hL.2.1) ?_
        refine z_icmp_geN F (by omega) (by omega) (tgt := 232) dX6_clause_186 (by decide) (fun c_186 => ?_) (fun c_186 => ?_)
        · have ek : k + 1 = m := by omega
          refine z_loc [some (zr 1 0), none, some (zi (nI i)), none, none] ⟨rfl, rfl, trivial⟩ ?_
          exact p232 (by omega) F2 G2 A2 hL.2.1 (p269 (by omega) F2 G2 A2 (e322 (dall d f l k) F2 G2 A2 (by unfold lnR; rw [if_neg (by omega), if_neg (by omega), if_pos q, show m - 1 = k by omega]) hL))
        · refine z_iload_n F dX6_clause_189 rfl ?_
          refine z_iconst F (nI 2) dX6_clause_190 rfl ?_
          refine z_icmp_neN F (by omega) (by omega) (tgt := 232) dX6_clause_191 (by decide) (fun c_191 => ?_) (fun c_191 => ?_)
          · exact absurd c_191 (by omega)
          · refine z_iconst F (nI 0) dX6_clause_194 rfl ?_
            refine z_istore F dX6_clause_195 (Nat.le_of_ble_eq_true rfl) ?_
            refine z_leq (L' := [_, _, _, _, _]) rfl ?_
            exact inn (by omega) (k + 2) 0 F2 A2 (by omega) (by omega) hL
    -- stars
    have star_ : i = 3 → ∀ (u k : Nat) (F2 : Nat → Int32) (G2 : Nat → Int64) (A2 : Nat → Nat → Int32), m - (k + 1) < u → k + 1 ≤ m → LSt tb z F0 G0 A0 m l b1 F2 G2 A2 (dstr d f l k) → Z X [some (zr 1 0), none, some (zi (nI i)), some (zi (nI (k + 1))), none] [] [zH, zG F2 G2 A2 B] 0 0 234 := by
      intro q u
      induction u with
      | zero => intro k F2 G2 A2 hu; omega
      | succ u ih =>
        intro k F2 G2 A2 hu hk hL
        have hok2 := dstr_ok (d := d) hf hl.1 k hk
        obtain ⟨k1, k2, k3, k4, k5, k6, k7⟩ := id hL
        refine z_iload_n F dX6_clause_234 rfl ?_
        refine z_aload_n F dX6_clause_235 rfl ?_
        refine z_mi F rfl 19 rfl (Nat.le_of_ble_eq_true rfl) rfl q1499 dX6_clause_236 ?_
        refine z_ieq (k2) ?_
        refine z_icmp_geN F (by omega) (by omega) (tgt := 269) dX6_clause_239 (by decide) (fun c_239 => ?_) (fun c_239 => ?_)
        · have ek : k + 1 = m := by omega
          refine z_loc [some (zr 1 0), none, some (zi (nI i)), none, none] ⟨rfl, rfl, trivial⟩ ?_
          exact p269 (by omega) F2 G2 A2 (e322 (dstr d f l k) F2 G2 A2 (by unfold lnR; rw [if_neg (by omega), if_neg (by omega), if_neg (by omega), if_pos q, show m - 1 = k by omega]) hL)
        · refine z_iload_n F dX6_clause_242 rfl ?_
          refine z_iconst F (nI 3) dX6_clause_243 rfl ?_
          refine z_icmp_neN F (by omega) (by omega) (tgt := 269) dX6_clause_244 (by decide) (fun c_244 => ?_) (fun c_244 => ?_)
          · exact absurd c_244 (by omega)
          · refine z_aload_n F dX6_clause_247 rfl ?_
            refine z_aload_n F dX6_clause_248 rfl ?_
            refine z_ma F rfl 18 rfl (Nat.le_of_ble_eq_true rfl) rfl q1498 dX6_clause_249 ?_
            refine z_iconst F (nI 0) dX6_clause_252 rfl ?_
            refine z_ialdGN F rfl rfl (Nat.le_of_ble_eq_true rfl) (by omega) rfl dX6_clause_253 ?_
            refine z_ieq (k3 0 (by omega)) ?_
            refine z_aload_n F dX6_clause_254 rfl ?_
            refine z_ma F rfl 18 rfl (Nat.le_of_ble_eq_true rfl) rfl q1498 dX6_clause_255 ?_
            refine z_iload_n F dX6_clause_258 rfl ?_
            refine z_ialdGN F rfl rfl (Nat.le_of_ble_eq_true rfl) (by omega) rfl dX6_clause_259 ?_
            refine z_ieq (k3 (k + 1) (by omega)) ?_
            refine z_callV F (c_mdraw F2 G2 A2 B tb z n d b1 (l 0) (l (k + 1)) _ hok2 hn hd (hl.1 0 (by omega)) (hl.1 (k + 1) (by omega)) (hne 0 (k + 1) (by omega) (by omega) (by omega)) k1 ((k5.at 5 rfl).trans h5) k4) 2 rfl (lw_V q1824 q1826 qs59 q117 q1827) (by decide +kernel) ⟨Nat.le_of_ble_eq_true rfl, Nat.le_of_ble_eq_true rfl⟩ ⟨by omega, by omega⟩ [0, 1] 2 ⟨rfl, rfl, rfl, ⟨Or.inl rfl, Or.inr rfl, trivial⟩⟩ (fun h => nomatch h) (Nat.le_of_ble_eq_true rfl) ⟨⟨Or.inr trivial, Or.inl rfl, trivial⟩, rfl, rfl, rfl, Nat.le_of_ble_eq_true rfl⟩ rfl zC6 (zat_G0 rfl) rfl dX6_clause_260 (fun r_260 w_260 hp => ?_) (fun _ _ h => h.elim)
            obtain ⟨rfl, F3, A3, rfl, m1, m2, m3, m4⟩ := hp
            refine z_weq (w' := [zH, zG _ _ _ _]) rfl ?_
            refine z_seq (S' := []) rfl ?_
            refine z_iincN F 1 dX6_clause_263 rfl rfl ?_
            refine z_leq (L' := [_, _, _, _, _]) rfl ?_
            refine z_goto F (tgt := 234) dX6_clause_266 (by decide) ?_
            exact ih (k + 1) F3 G2 A3 (by omega) (by omega) (LSt_dj hL m1 m2 m3 m4)
    -- a line off
    have off_ : i = 4 → ∀ (F2 : Nat → Int32) (G2 : Nat → Int64) (A2 : Nat → Nat → Int32), LSt tb z F0 G0 A0 m l b1 F2 G2 A2 (.inl f) → Z X [some (zr 1 0), none, some (zi (nI i)), none, none] [] [zH, zG F2 G2 A2 B] 0 0 269 := by
      intro q F2 G2 A2 hL
      obtain ⟨k1, k2, k3, k4, k5, k6, k7⟩ := id hL
      have hf2 := k4 f rfl
      have hln : lnR d i l m f = doff f l := by unfold lnR; rw [if_neg (by omega), if_neg (by omega), if_neg (by omega), if_neg (by omega)]
      refine z_iload_n F dX6_clause_269 rfl ?_
      refine z_iconst F (nI 4) dX6_clause_270 rfl ?_
      refine z_icmp_neN F (by omega) (by omega) (tgt := 312) dX6_clause_271 (by decide) (fun c_271 => ?_) (fun c_271 => ?_)
      · exact absurd c_271 (by omega)
      · refine z_aload_n F dX6_clause_274 rfl ?_
        refine z_aload_n F dX6_clause_275 rfl ?_
        refine z_ma F rfl 18 rfl (Nat.le_of_ble_eq_true rfl) rfl q1498 dX6_clause_276 ?_
        refine z_iconst F (nI 0) dX6_clause_279 rfl ?_
        refine z_ialdGN F rfl rfl (Nat.le_of_ble_eq_true rfl) (by omega) rfl dX6_clause_280 ?_
        refine z_ieq (k3 0 (by omega)) ?_
        refine z_aload_n F dX6_clause_281 rfl ?_
        refine z_ma F rfl 18 rfl (Nat.le_of_ble_eq_true rfl) rfl q1498 dX6_clause_282 ?_
        refine z_iconst F (nI 1) dX6_clause_285 rfl ?_
        refine z_ialdGN F rfl rfl (Nat.le_of_ble_eq_true rfl) (by omega) rfl dX6_clause_286 ?_
        refine z_ieq (k3 1 (by omega)) ?_
        refine z_callV F (c_isJoined F2 G2 A2 B (l 0) (l 1) (by have := hl.1 0 (by omega); omega) (by have := hl.1 1 (by omega); omega)) 2 rfl (lw_V q1748 q1750 qs46 q117 q1751) (by decide +kernel) ⟨Nat.le_of_ble_eq_true rfl, Nat.le_of_ble_eq_true rfl⟩ ⟨by omega, by omega⟩ [0, 1] 2 ⟨rfl, rfl, rfl, ⟨Or.inl rfl, Or.inr rfl, trivial⟩⟩ (fun h => nomatch h) (Nat.le_of_ble_eq_true rfl) ⟨⟨Or.inr trivial, Or.inl rfl, trivial⟩, rfl, rfl, rfl, Nat.le_of_ble_eq_true rfl⟩ rfl zC6 (zat_G0 rfl) rfl dX6_clause_287 (fun r_287 w_287 hp => ?_) (fun _ _ h => h.elim)
        obtain ⟨rfl, rfl⟩ := hp
        rw [hf2 (l 0) (by have := hl.1 0 (by omega); omega)]
        refine z_weq (w' := [zH, zG _ _ _ _]) rfl ?_
        refine z_seq (S' := zi _ :: _) rfl ?_
        refine z_if_eqB F (tgt := 312) dX6_clause_290 (by decide) (fun c_290 => ?_) (fun c_290 => ?_)
        · refine z_iload_n F dX6_clause_312 rfl ?_
          refine z_iconst F (nI 4) dX6_clause_313 rfl ?_
          refine z_icmp_neN F (by omega) (by omega) (tgt := 322) dX6_clause_314 (by decide) (fun c_314 => ?_) (fun c_314 => ?_)
          · exact absurd c_314 (by omega)
          · refine z_aload_n F dX6_clause_317 rfl ?_
            refine z_iconst F (nI 5) dX6_clause_318 rfl ?_
            refine z_callV F (c_mwrong F2 G2 A2 B tb z 0 b1 5 (by omega) k1 (by decide)) 1 rfl (lw_V q1808 q1810 qs55 q117 q1811) (by decide +kernel) ⟨Nat.le_of_ble_eq_true rfl, Nat.le_of_ble_eq_true rfl⟩ ⟨by omega, by omega⟩ [0, 1] 2 ⟨rfl, rfl, rfl, ⟨Or.inl rfl, Or.inr rfl, trivial⟩⟩ (fun h => nomatch h) (Nat.le_of_ble_eq_true rfl) ⟨⟨Or.inr trivial, Or.inl rfl, trivial⟩, rfl, rfl, rfl, Nat.le_of_ble_eq_true rfl⟩ rfl zC6 (zat_G0 rfl) rfl dX6_clause_319 (fun r_319 w_319 hp => ?_) (fun _ _ h => h.elim)
            obtain ⟨rfl, F3, rfl, m1, m2⟩ := hp
            rw [if_pos rfl] at m1
            refine z_weq (w' := [zH, zG _ _ _ _]) rfl ?_
            refine z_seq (S' := []) rfl ?_
            exact e322 (.inr 5) F3 G2 A2 (by rw [hln]; unfold doff; rw [if_neg (by rw [c_290]; decide)]) ⟨m1, (m2.at 19 rfl).trans k2, k3, fun g e => (by cases e), k5.tr m2 (by decide) (by decide), k6, k7⟩
        · refine z_aload_n F dX6_clause_293 rfl ?_
          refine z_aload_n F dX6_clause_294 rfl ?_
          refine z_ma F rfl 18 rfl (Nat.le_of_ble_eq_true rfl) rfl q1498 dX6_clause_295 ?_
          refine z_iconst F (nI 0) dX6_clause_298 rfl ?_
          refine z_ialdGN F rfl rfl (Nat.le_of_ble_eq_true rfl) (by omega) rfl dX6_clause_299 ?_
          refine z_ieq (k3 0 (by omega)) ?_
          refine z_aload_n F dX6_clause_300 rfl ?_
          refine z_ma F rfl 18 rfl (Nat.le_of_ble_eq_true rfl) rfl q1498 dX6_clause_301 ?_
          refine z_iconst F (nI 1) dX6_clause_304 rfl ?_
          refine z_ialdGN F rfl rfl (Nat.le_of_ble_eq_true rfl) (by omega) rfl dX6_clause_305 ?_
          refine z_ieq (k3 1 (by omega)) ?_
          refine z_callV F (c_parts F2 G2 A2 B (l 0) (l 1) (by have := hl.1 0 (by omega); omega) (by have := hl.1 1 (by omega); omega)) 2 rfl (lw_V q1763 q1765 qs48 q117 q1766) (by decide +kernel) ⟨Nat.le_of_ble_eq_true rfl, Nat.le_of_ble_eq_true rfl⟩ ⟨by omega, by omega⟩ [0, 1] 2 ⟨rfl, rfl, rfl, ⟨Or.inl rfl, Or.inr rfl, trivial⟩⟩ (fun h => nomatch h) (Nat.le_of_ble_eq_true rfl) ⟨⟨Or.inr trivial, Or.inl rfl, trivial⟩, rfl, rfl, rfl, Nat.le_of_ble_eq_true rfl⟩ rfl zC6 (zat_G0 rfl) rfl dX6_clause_306 (fun r_306 w_306 hp => ?_) (fun _ _ h => h.elim)
          obtain ⟨rfl, rfl⟩ := hp
          refine z_weq (w' := [zH, zG _ _ _ _]) rfl ?_
          refine z_seq (S' := []) rfl ?_
          refine z_goto F (tgt := 322) dX6_clause_309 (by decide) ?_
          refine e322 (.inl (pt f (l 0) (l 1))) F2 G2 _ (by rw [hln]; unfold doff; rw [if_pos c_290]) ⟨k1, k2, k3, fun g e => ?_, k5, k6, frm_fA k7 (by decide)⟩
          cases e
          intro k hk
          rw [fA_at]
          exact pt_cong hf2 (by have := hl.1 0 (by omega); omega) (by have := hl.1 1 (by omega); omega) hk
    -- the first loop's head for all kinds
    have p153 : i ≠ 0 → i ≠ 1 → ∀ (F2 : Nat → Int32) (G2 : Nat → Int64) (A2 : Nat → Nat → Int32), F2 19 = nI m → Z X [some (zr 1 0), none, some (zi (nI i)), none, none] [] [zH, zG F2 G2 A2 B] 0 0 179 → Z X [some (zr 1 0), none, some (zi (nI i)), none, none] [] [zH, zG F2 G2 A2 B] 0 0 110 := by
      intro q0 q1 F2 G2 A2 g19 kk
      refine z_iconst F (nI 1) dX6_clause_110 rfl ?_
      refine z_istore_n F dX6_clause_111 (Nat.le_of_ble_eq_true rfl) ?_
      refine z_leq (L' := [_, _, _, _, _]) rfl ?_
      refine z_iload_n F dX6_clause_112 rfl ?_
      refine z_aload_n F dX6_clause_113 rfl ?_
      refine z_mi F rfl 19 rfl (Nat.le_of_ble_eq_true rfl) rfl q1499 dX6_clause_114 ?_
      refine z_ieq (g19) ?_
      refine z_icmp_geN F (by omega) (by omega) (tgt := 153) dX6_clause_117 (by decide) (fun c_117 => ?_) (fun c_117 => ?_)
      · exact absurd c_117 (by omega)
      · refine z_iload_n F dX6_clause_120 rfl ?_
        refine z_if_eqN F (by omega) (tgt := 129) dX6_clause_121 (by decide) (fun c_121 => ?_) (fun c_121 => ?_)
        · exact absurd c_121 (by omega)
        · refine z_iload_n F dX6_clause_124 rfl ?_
          refine z_iconst F (nI 1) dX6_clause_125 rfl ?_
          refine z_icmp_neN F (by omega) (by omega) (tgt := 153) dX6_clause_126 (by decide) (fun c_126 => ?_) (fun c_126 => ?_)
          · refine z_iload_n F dX6_clause_153 rfl ?_
            refine z_iconst F (nI 1) dX6_clause_154 rfl ?_
            refine z_icmp_neN F (by omega) (by omega) (tgt := 179) dX6_clause_155 (by decide) (fun c_155 => ?_) (fun c_155 => ?_)
            · refine z_loc _ ?_ kk
              exact ⟨rfl, rfl, trivial⟩
            · exact absurd c_155 (by omega)
          · exact absurd c_126 (by omega)
    rcases (show i = 0 ∨ i = 1 ∨ i = 2 ∨ i = 3 ∨ i = 4 by omega) with q | q | q | q | q
    · skip
      refine z_iconst F (nI 1) dX6_clause_110 rfl ?_
      refine z_istore_n F dX6_clause_111 (Nat.le_of_ble_eq_true rfl) ?_
      refine z_leq (L' := [_, _, _, _, _]) rfl ?_
      exact rows (Or.inl q) m 0 F1 G1 A1 (by omega) (by omega) hL0
    · skip
      refine z_iconst F (nI 1) dX6_clause_110 rfl ?_
      refine z_istore_n F dX6_clause_111 (Nat.le_of_ble_eq_true rfl) ?_
      refine z_leq (L' := [_, _, _, _, _]) rfl ?_
      exact rows (Or.inr q) m 0 F1 G1 A1 (by omega) (by omega) hL0
    · refine p153 (by omega) (by omega) F1 G1 A1 hL0.2.1 ?_
      refine z_iconst F (nI 1) dX6_clause_179 rfl ?_
      refine z_istore_n F dX6_clause_180 (Nat.le_of_ble_eq_true rfl) ?_
      refine z_leq (L' := [_, _, _, _, _]) rfl ?_
      exact allI q m 0 F1 G1 A1 (by omega) (by omega) hL0
    · refine p153 (by omega) (by omega) F1 G1 A1 hL0.2.1 (p179 (by omega) F1 G1 A1 hL0.2.1 ?_)
      refine z_iconst F (nI 1) dX6_clause_232 rfl ?_
      refine z_istore_n F dX6_clause_233 (Nat.le_of_ble_eq_true rfl) ?_
      refine z_leq (L' := [_, _, _, _, _]) rfl ?_
      exact star_ q m 0 F1 G1 A1 (by omega) (by omega) hL0
    · exact p153 (by omega) (by omega) F1 G1 A1 hL0.2.1 (p179 (by omega) F1 G1 A1 hL0.2.1 (p232 (by omega) F1 G1 A1 hL0.2.1 (off_ q F1 G1 A1 hL0)))
  -- behind the knots
  have at82 : ∀ (F1 : Nat → Int32) (G1 : Nat → Int64) (A1 : Nat → Nat → Int32) (s : kS), clK tb z n i b = s → RS tb z F1 G1 s.1 s.2.1 → F1 19 = nI s.2.2.2 → (∀ k, k < s.2.2.2 → A1 18 k = nI (s.2.2.1 k)) → frm LF F0 F1 → frm [17] G0 G1 → frm [18] A0 A1 → Z X [some (zr 1 0), none, some (zi (nI i)), none, none] [] [zH, zG F1 G1 A1 B] 0 0 82 := by
    intro F1 G1 A1 s hs hS1 g19 gA kF kG kA
    obtain ⟨e, b1, l, m⟩ := s
    have hle : e ≤ 6 := by rw [hs] at ck3; exact ck3
    have hkd := kd_lt tb z b1
    have end_ : ∀ (F2 : Nat → Int32) (e2 : Nat), e2 ≠ 0 → e2 ≤ 6 → clS tb z n d f c b = (e2, b1, f) → RS tb z F2 G1 e2 b1 → frm LF F0 F2 → Z X [some (zr 1 0), none, some (zi (nI i)), none, none] [] [zH, zG F2 G1 A1 B] 0 0 102 := by
      intro F2 e2 hne hle2 hc2 hS2 kF2
      refine z_aload_n F dX6_clause_102 rfl ?_
      refine z_callV F (c_misGood F2 G1 A1 B e2 hle2 hS2.2.1) 0 rfl (lw_V q1804 q1806 qs54 q117 q1807) (by decide +kernel) ⟨Nat.le_of_ble_eq_true rfl, Nat.le_of_ble_eq_true rfl⟩ ⟨by omega, by omega⟩ [0, 1] 2 ⟨rfl, rfl, rfl, ⟨Or.inl rfl, Or.inr rfl, trivial⟩⟩ (fun h => nomatch h) (Nat.le_of_ble_eq_true rfl) ⟨⟨Or.inr trivial, Or.inl rfl, trivial⟩, rfl, rfl, rfl, Nat.le_of_ble_eq_true rfl⟩ rfl zC6 (zat_G0 rfl) rfl dX6_clause_103 (fun r_103 w_103 hp => ?_) (fun _ _ h => h.elim)
      obtain ⟨rfl, rfl⟩ := hp
      refine z_weq (w' := [zH, zG _ _ _ _]) rfl ?_
      refine z_seq (S' := zi _ :: _) rfl ?_
      refine z_if_neB F (tgt := 110) dX6_clause_106 (by decide) (fun c_106 => ?_) (fun c_106 => ?_)
      · exact absurd (of_decide_eq_true c_106) hne
      · exact z_vret F E rfl dX6_clause_109 (by omega) (by omega) (⟨rfl, F2, G1, A1, rfl, by rw [hc2]; exact hS2, fun w => by rw [hc2] at w; exact absurd w hne, kF2, kG, kA.to (by decide)⟩)
    by_cases e0 : e = 0
    · subst e0
      have hS1 : RS tb z F1 G1 0 b1 := hS1
      refine z_aload_n F dX6_clause_82 rfl ?_
      refine z_callV F (c_misGood F1 G1 A1 B 0 (by omega) hS1.2.1) 0 rfl (lw_V q1804 q1806 qs54 q117 q1807) (by decide +kernel) ⟨Nat.le_of_ble_eq_true rfl, Nat.le_of_ble_eq_true rfl⟩ ⟨by omega, by omega⟩ [0, 1] 2 ⟨rfl, rfl, rfl, ⟨Or.inl rfl, Or.inr rfl, trivial⟩⟩ (fun h => nomatch h) (Nat.le_of_ble_eq_true rfl) ⟨⟨Or.inr trivial, Or.inl rfl, trivial⟩, rfl, rfl, rfl, Nat.le_of_ble_eq_true rfl⟩ rfl zC6 (zat_G0 rfl) rfl dX6_clause_83 (fun r_83 w_83 hp => ?_) (fun _ _ h => h.elim)
      obtain ⟨rfl, rfl⟩ := hp
      refine z_weq (w' := [zH, zG _ _ _ _]) rfl ?_
      refine z_seq (S' := zi _ :: _) rfl ?_
      refine z_if_eqB F (tgt := 102) dX6_clause_86 (by decide) (fun c_86 => ?_) (fun c_86 => ?_)
      · cases c_86
      · refine z_aload_n F dX6_clause_89 rfl ?_
        refine z_mi F rfl 13 rfl (Nat.le_of_ble_eq_true rfl) rfl q1493 dX6_clause_90 ?_
        refine z_ieq (hS1.1.2.2.1) ?_
        refine z_iconst F (nI 3) dX6_clause_93 rfl ?_
        refine z_icmp_eqN F (by omega) (by omega) (tgt := 102) dX6_clause_94 (by decide) (fun c_94 => ?_) (fun c_94 => ?_)
        · refine z_aload_n F dX6_clause_102 rfl ?_
          refine z_callV F (c_misGood F1 G1 A1 B 0 (by omega) hS1.2.1) 0 rfl (lw_V q1804 q1806 qs54 q117 q1807) (by decide +kernel) ⟨Nat.le_of_ble_eq_true rfl, Nat.le_of_ble_eq_true rfl⟩ ⟨by omega, by omega⟩ [0, 1] 2 ⟨rfl, rfl, rfl, ⟨Or.inl rfl, Or.inr rfl, trivial⟩⟩ (fun h => nomatch h) (Nat.le_of_ble_eq_true rfl) ⟨⟨Or.inr trivial, Or.inl rfl, trivial⟩, rfl, rfl, rfl, Nat.le_of_ble_eq_true rfl⟩ rfl zC6 (zat_G0 rfl) rfl dX6_clause_103 (fun r_103 w_103 hp => ?_) (fun _ _ h => h.elim)
          obtain ⟨rfl, rfl⟩ := hp
          refine z_weq (w' := [zH, zG _ _ _ _]) rfl ?_
          refine z_seq (S' := zi _ :: _) rfl ?_
          refine z_if_neB F (tgt := 110) dX6_clause_106 (by decide) (fun c_106 => ?_) (fun c_106 => ?_)
          · exact lines b1 m l hs (by omega) F1 G1 A1 ⟨hS1, g19, gA, fun g q => by cases q; exact fun k hk => by rw [kA.at 6 rfl]; exact hA k hk, kF, kG, kA.to (by decide)⟩
          · cases c_106
        · refine z_aload_n F dX6_clause_97 rfl ?_
          refine z_iconst F (nI 1) dX6_clause_98 rfl ?_
          refine z_callV F (c_mwrong F1 G1 A1 B tb z 0 b1 1 (by omega) hS1 (by decide)) 1 rfl (lw_V q1808 q1810 qs55 q117 q1811) (by decide +kernel) ⟨Nat.le_of_ble_eq_true rfl, Nat.le_of_ble_eq_true rfl⟩ ⟨by omega, by omega⟩ [0, 1] 2 ⟨rfl, rfl, rfl, ⟨Or.inl rfl, Or.inr rfl, trivial⟩⟩ (fun h => nomatch h) (Nat.le_of_ble_eq_true rfl) ⟨⟨Or.inr trivial, Or.inl rfl, trivial⟩, rfl, rfl, rfl, Nat.le_of_ble_eq_true rfl⟩ rfl zC6 (zat_G0 rfl) rfl dX6_clause_99 (fun r_99 w_99 hp => ?_) (fun _ _ h => h.elim)
          obtain ⟨rfl, F2, rfl, k1, k2⟩ := hp
          rw [if_pos rfl] at k1
          refine z_weq (w' := [zH, zG _ _ _ _]) rfl ?_
          refine z_seq (S' := []) rfl ?_
          exact end_ F2 1 (by omega) (by omega) (by rw [hcl, hs]; unfold clE; rw [if_neg (fun w => w rfl), if_pos (show kd tb z b1 ≠ 3 by omega)]) k1 (kF.tr k2 (by decide) (by decide))
    · skip
      refine z_aload_n F dX6_clause_82 rfl ?_
      refine z_callV F (c_misGood F1 G1 A1 B e hle hS1.2.1) 0 rfl (lw_V q1804 q1806 qs54 q117 q1807) (by decide +kernel) ⟨Nat.le_of_ble_eq_true rfl, Nat.le_of_ble_eq_true rfl⟩ ⟨by omega, by omega⟩ [0, 1] 2 ⟨rfl, rfl, rfl, ⟨Or.inl rfl, Or.inr rfl, trivial⟩⟩ (fun h => nomatch h) (Nat.le_of_ble_eq_true rfl) ⟨⟨Or.inr trivial, Or.inl rfl, trivial⟩, rfl, rfl, rfl, Nat.le_of_ble_eq_true rfl⟩ rfl zC6 (zat_G0 rfl) rfl dX6_clause_83 (fun r_83 w_83 hp => ?_) (fun _ _ h => h.elim)
      obtain ⟨rfl, rfl⟩ := hp
      refine z_weq (w' := [zH, zG _ _ _ _]) rfl ?_
      refine z_seq (S' := zi _ :: _) rfl ?_
      refine z_if_eqB F (tgt := 102) dX6_clause_86 (by decide) (fun c_86 => ?_) (fun c_86 => ?_)
      · exact end_ F1 e e0 hle (by rw [hcl, hs]; unfold clE; rw [if_pos (show e ≠ 0 from e0)]) hS1 kF
      · exact absurd (of_decide_eq_true c_86) e0
  -- no more knots: a fault, or a line goes off
  have bad55 : ∀ (F1 : Nat → Int32) (G1 : Nat → Int64) (A1 : Nat → Nat → Int32) (s : kS), clK tb z n i b = s → s.1 ≠ 0 → s.1 ≤ 6 → RS tb z F1 G1 s.1 s.2.1 → F1 19 = nI s.2.2.2 → (∀ k, k < s.2.2.2 → A1 18 k = nI (s.2.2.1 k)) → frm LF F0 F1 → frm [17] G0 G1 → frm [18] A0 A1 → Z X [some (zr 1 0), none, some (zi (nI i)), none, none] [] [zH, zG F1 G1 A1 B] 0 0 55 := by
    intro F1 G1 A1 s hs hne hle hS1 g19 gA kF kG kA
    refine z_aload_n F dX6_clause_55 rfl ?_
    refine z_callV F (c_misGood F1 G1 A1 B s.1 hle hS1.2.1) 0 rfl (lw_V q1804 q1806 qs54 q117 q1807) (by decide +kernel) ⟨Nat.le_of_ble_eq_true rfl, Nat.le_of_ble_eq_true rfl⟩ ⟨by omega, by omega⟩ [0, 1] 2 ⟨rfl, rfl, rfl, ⟨Or.inl rfl, Or.inr rfl, trivial⟩⟩ (fun h => nomatch h) (Nat.le_of_ble_eq_true rfl) ⟨⟨Or.inr trivial, Or.inl rfl, trivial⟩, rfl, rfl, rfl, Nat.le_of_ble_eq_true rfl⟩ rfl zC6 (zat_G0 rfl) rfl dX6_clause_56 (fun r_56 w_56 hp => ?_) (fun _ _ h => h.elim)
    obtain ⟨rfl, rfl⟩ := hp
    refine z_weq (w' := [zH, zG _ _ _ _]) rfl ?_
    refine z_seq (S' := zi _ :: _) rfl ?_
    refine z_if_eqB F (tgt := 82) dX6_clause_59 (by decide) (fun c_59 => ?_) (fun c_59 => ?_)
    · exact at82 F1 G1 A1 s hs hS1 g19 gA kF kG kA
    · exact absurd (of_decide_eq_true c_59) hne
  have off55 : i = 4 → ∀ (F1 : Nat → Int32) (G1 : Nat → Int64) (A1 : Nat → Nat → Int32) (s : kS), clK tb z n i b = s → s.1 ≤ 6 → RS tb z F1 G1 s.1 s.2.1 → F1 19 = nI s.2.2.2 → (∀ k, k < s.2.2.2 → A1 18 k = nI (s.2.2.1 k)) → frm LF F0 F1 → frm [17] G0 G1 → frm [18] A0 A1 → Z X [some (zr 1 0), none, some (zi (nI i)), none, none] [] [zH, zG F1 G1 A1 B] 0 0 55 := by
    intro q4 F1 G1 A1 s hs hle hS1 g19 gA kF kG kA
    refine z_aload_n F dX6_clause_55 rfl ?_
    refine z_callV F (c_misGood F1 G1 A1 B s.1 hle hS1.2.1) 0 rfl (lw_V q1804 q1806 qs54 q117 q1807) (by decide +kernel) ⟨Nat.le_of_ble_eq_true rfl, Nat.le_of_ble_eq_true rfl⟩ ⟨by omega, by omega⟩ [0, 1] 2 ⟨rfl, rfl, rfl, ⟨Or.inl rfl, Or.inr rfl, trivial⟩⟩ (fun h => nomatch h) (Nat.le_of_ble_eq_true rfl) ⟨⟨Or.inr trivial, Or.inl rfl, trivial⟩, rfl, rfl, rfl, Nat.le_of_ble_eq_true rfl⟩ rfl zC6 (zat_G0 rfl) rfl dX6_clause_56 (fun r_56 w_56 hp => ?_) (fun _ _ h => h.elim)
    obtain ⟨rfl, rfl⟩ := hp
    refine z_weq (w' := [zH, zG _ _ _ _]) rfl ?_
    refine z_seq (S' := zi _ :: _) rfl ?_
    refine z_if_eqB F (tgt := 82) dX6_clause_59 (by decide) (fun c_59 => ?_) (fun c_59 => ?_)
    · exact at82 F1 G1 A1 s hs hS1 g19 gA kF kG kA
    · refine z_iload_n F dX6_clause_62 rfl ?_
      refine z_iconst F (nI 4) dX6_clause_63 rfl ?_
      refine z_icmp_eqN F (by omega) (by omega) (tgt := 82) dX6_clause_64 (by decide) (fun c_64 => ?_) (fun c_64 => ?_)
      · exact at82 F1 G1 A1 s hs hS1 g19 gA kF kG kA
      · exact absurd c_64 (by omega)
  -- further knots
  have more_ : i ≠ 4 → ∀ (u : Nat) (F1 : Nat → Int32) (G1 : Nat → Int64) (A1 : Nat → Nat → Int32) (s : kS), clK tb z n i b = knL tb z n u s → 13 ≤ u + s.2.2.2 → s.2.1 ≤ z → lok n s.2.2.1 s.2.2.2 → s.1 ≤ 6 → RS tb z F1 G1 s.1 s.2.1 → F1 19 = nI s.2.2.2 → (∀ k, k < s.2.2.2 → A1 18 k = nI (s.2.2.1 k)) → frm LF F0 F1 → frm [17] G0 G1 → frm [18] A0 A1 → Z X [some (zr 1 0), none, some (zi (nI i)), none, none] [] [zH, zG F1 G1 A1 B] 0 0 55 := by
    intro q4 u
    induction u with
    | zero => intro F1 G1 A1 s hs hu hbz hlo; have := hlo.2.2; omega
    | succ u ih =>
      intro F1 G1 A1 s hs hu hbz hlo hle hS1 g19 gA kF kG kA
      obtain ⟨e, b1, l, m⟩ := s
      have hkd := kd_lt tb z b1
      have hstop : ¬ (e = 0 ∧ kd tb z b1 = 2) → clK tb z n i b = (e, b1, l, m) := fun w => by rw [hs]; exact knL_bad w (u + 1)
      have hgo : e = 0 ∧ kd tb z b1 = 2 → clK tb z n i b = knL tb z n u (kn1 tb z n (e, b1, l, m)) := fun w => by rw [hs, knL, if_pos w]
      have hmm : e = 0 ∧ kd tb z b1 = 2 → 13 ≤ u + (kn1 tb z n (e, b1, l, m)).2.2.2 ∨ (kn1 tb z n (e, b1, l, m)).1 ≠ 0 := fun w => by
        by_cases q : (kn1 tb z n (e, b1, l, m)).1 = 0
        · have := (kn1_m q).2
          exact Or.inl (by rw [this]; show 13 ≤ u + (m + 1); have : 13 ≤ u + 1 + m := hu; omega)
        · exact Or.inr q
      obtain ⟨w1, w2, w3⟩ := kn1_ok (tb := tb) (z := z) (n := n) (s := (e, b1, l, m)) hbz hlo hle
      by_cases e0 : e = 0
      · subst e0
        have hS1 : RS tb z F1 G1 0 b1 := hS1
        refine z_aload_n F dX6_clause_55 rfl ?_
        refine z_callV F (c_misGood F1 G1 A1 B 0 (by omega) hS1.2.1) 0 rfl (lw_V q1804 q1806 qs54 q117 q1807) (by decide +kernel) ⟨Nat.le_of_ble_eq_true rfl, Nat.le_of_ble_eq_true rfl⟩ ⟨by omega, by omega⟩ [0, 1] 2 ⟨rfl, rfl, rfl, ⟨Or.inl rfl, Or.inr rfl, trivial⟩⟩ (fun h => nomatch h) (Nat.le_of_ble_eq_true rfl) ⟨⟨Or.inr trivial, Or.inl rfl, trivial⟩, rfl, rfl, rfl, Nat.le_of_ble_eq_true rfl⟩ rfl zC6 (zat_G0 rfl) rfl dX6_clause_56 (fun r_56 w_56 hp => ?_) (fun _ _ h => h.elim)
        obtain ⟨rfl, rfl⟩ := hp
        refine z_weq (w' := [zH, zG _ _ _ _]) rfl ?_
        refine z_seq (S' := zi _ :: _) rfl ?_
        refine z_if_eqB F (tgt := 82) dX6_clause_59 (by decide) (fun c_59 => ?_) (fun c_59 => ?_)
        · cases c_59
        · refine z_iload_n F dX6_clause_62 rfl ?_
          refine z_iconst F (nI 4) dX6_clause_63 rfl ?_
          refine z_icmp_eqN F (by omega) (by omega) (tgt := 82) dX6_clause_64 (by decide) (fun c_64 => ?_) (fun c_64 => ?_)
          · exact absurd c_64 (by omega)
          · refine z_aload_n F dX6_clause_67 rfl ?_
            refine z_mi F rfl 13 rfl (Nat.le_of_ble_eq_true rfl) rfl q1493 dX6_clause_68 ?_
            refine z_ieq (hS1.1.2.2.1) ?_
            refine z_iconst F (nI 2) dX6_clause_71 rfl ?_
            refine z_icmp_neN F (by omega) (by omega) (tgt := 82) dX6_clause_72 (by decide) (fun c_72 => ?_) (fun c_72 => ?_)
            · exact at82 F1 G1 A1 _ (hstop (fun w => absurd w.2 (by omega))) hS1 g19 gA kF kG kA
            · refine z_aload_n F dX6_clause_75 rfl ?_
              refine z_callV F (c_mknot F1 G1 A1 B tb z n 0 b1 m l hz hbz htb (fun i hi => by rw [kA.at 7 rfl]; exact ht i hi) (by omega) hS1 ((kF.at 4 rfl).trans h4) hn hlo g19 gA) 0 rfl (lw_V q1820 q1822 qs58 q117 q1823) (by decide +kernel) ⟨Nat.le_of_ble_eq_true rfl, Nat.le_of_ble_eq_true rfl⟩ ⟨by omega, by omega⟩ [0, 1] 2 ⟨rfl, rfl, rfl, ⟨Or.inl rfl, Or.inr rfl, trivial⟩⟩ (fun h => nomatch h) (Nat.le_of_ble_eq_true rfl) ⟨⟨Or.inr trivial, Or.inl rfl, trivial⟩, rfl, rfl, rfl, Nat.le_of_ble_eq_true rfl⟩ rfl zC6 (zat_G0 rfl) rfl dX6_clause_76 (fun r_76 w_76 hp => ?_) (fun _ _ h => h.elim)
              obtain ⟨rfl, F2, G2, A2, rfl, m1, m2, m3, m4, m5, m6⟩ := hp
              refine z_weq (w' := [zH, zG _ _ _ _]) rfl ?_
              refine z_seq (S' := []) rfl ?_
              refine z_goto F (tgt := 55) dX6_clause_79 (by decide) ?_
              rcases hmm ⟨rfl, by omega⟩ with v | v
              · exact ih F2 G2 A2 _ (hgo ⟨rfl, by omega⟩) v w1 w2 w3 m1 m2 m3 (kF.tr m4 (by decide) (by decide)) (kG.tr m5 (by decide) (by decide)) (kA.tr m6 (by decide) (by decide))
              · have hcK : clK tb z n i b = kn1 tb z n (0, b1, l, m) := by rw [hgo ⟨rfl, by omega⟩]; exact knL_bad (fun y => v y.1) u
                exact bad55 F2 G2 A2 _ hcK v w3 m1 m2 m3 (kF.tr m4 (by decide) (by decide)) (kG.tr m5 (by decide) (by decide)) (kA.tr m6 (by decide) (by decide))
      · exact bad55 F1 G1 A1 _ (hstop (fun w => e0 w.1)) e0 hle hS1 g19 gA kF kG kA
  -- two knots
  have two : ∀ (F1 : Nat → Int32) (G1 : Nat → Int64), RS tb z F1 G1 0 (nb tb z b) → frm LF F0 F1 → frm [17] G0 G1 → Z X [some (zr 1 0), none, some (zi (nI i)), none, none] [] [zH, zG F1 G1 A0 B] 0 0 42 := by
    intro F1 G1 hS1 kF kG
    obtain ⟨w1, w2, w3⟩ := kn1_ok (tb := tb) (z := z) (n := n) (s := (0, nb tb z b, fun _ => 0, 0)) (nb_le hb) (lok_0 n _) (by show 0 ≤ 6; omega)
    obtain ⟨v1, v2, v3⟩ := kn1_ok (tb := tb) (z := z) (n := n) w1 w2 w3
    refine z_aload_n F dX6_clause_42 rfl ?_
    refine z_iconst F (nI 0) dX6_clause_43 rfl ?_
    refine z_pmi F rfl 19 rfl (Nat.le_of_ble_eq_true rfl) rfl q1499 rfl rfl rfl dX6_clause_44 ?_
    refine z_weq (w' := [_, _]) rfl ?_
    refine z_aload_n F dX6_clause_47 rfl ?_
    refine z_callV F (c_mknot (upd F1 19 (nI 0)) G1 A0 B tb z n 0 (nb tb z b) 0 (fun _ => 0) hz (nb_le hb) htb ht (by omega) hS1 ((kF.at 4 rfl).trans h4) hn (lok_0 n _) rfl (fun k hk => absurd hk (by omega))) 0 rfl (lw_V q1820 q1822 qs58 q117 q1823) (by decide +kernel) ⟨Nat.le_of_ble_eq_true rfl, Nat.le_of_ble_eq_true rfl⟩ ⟨by omega, by omega⟩ [0, 1] 2 ⟨rfl, rfl, rfl, ⟨Or.inl rfl, Or.inr rfl, trivial⟩⟩ (fun h => nomatch h) (Nat.le_of_ble_eq_true rfl) ⟨⟨Or.inr trivial, Or.inl rfl, trivial⟩, rfl, rfl, rfl, Nat.le_of_ble_eq_true rfl⟩ rfl zC6 (zat_G0 rfl) rfl dX6_clause_48 (fun r_48 w_48 hp => ?_) (fun _ _ h => h.elim)
    obtain ⟨rfl, F2, G2, A2, rfl, m1, m2, m3, m4, m5, m6⟩ := hp
    refine z_weq (w' := [zH, zG _ _ _ _]) rfl ?_
    refine z_seq (S' := []) rfl ?_
    refine z_aload_n F dX6_clause_51 rfl ?_
    refine z_callV F (c_mknot F2 G2 A2 B tb z n _ _ _ _ hz w1 htb (fun i hi => by rw [m6.at 7 rfl]; exact ht i hi) w3 m1 ((m4.at 4 rfl).trans ((kF.at 4 rfl).trans h4)) hn w2 m2 m3) 0 rfl (lw_V q1820 q1822 qs58 q117 q1823) (by decide +kernel) ⟨Nat.le_of_ble_eq_true rfl, Nat.le_of_ble_eq_true rfl⟩ ⟨by omega, by omega⟩ [0, 1] 2 ⟨rfl, rfl, rfl, ⟨Or.inl rfl, Or.inr rfl, trivial⟩⟩ (fun h => nomatch h) (Nat.le_of_ble_eq_true rfl) ⟨⟨Or.inr trivial, Or.inl rfl, trivial⟩, rfl, rfl, rfl, Nat.le_of_ble_eq_true rfl⟩ rfl zC6 (zat_G0 rfl) rfl dX6_clause_52 (fun r_52 w_52 hp => ?_) (fun _ _ h => h.elim)
    obtain ⟨rfl, F3, G3, A3, rfl, u1, u2, u3, u4, u5, u6⟩ := hp
    refine z_weq (w' := [zH, zG _ _ _ _]) rfl ?_
    refine z_seq (S' := []) rfl ?_
    have kF3 : frm LF F0 F3 := ((frm_upd kF (by decide)).tr m4 (l2 := LF) (by decide) (by decide)).tr u4 (by decide) (by decide)
    have kG3 : frm [17] G0 G3 := (kG.tr m5 (l2 := [17]) (by decide) (by decide)).tr u5 (by decide) (by decide)
    have kA3 : frm [18] A0 A3 := m6.tr u6 (by decide) (by decide)
    by_cases q4 : i = 4
    · have hcK : clK tb z n i b = kn1 tb z n (kn1 tb z n (0, nb tb z b, fun _ => 0, 0)) := if_pos q4
      exact off55 q4 F3 G3 A3 _ hcK v3 u1 u2 u3 kF3 kG3 kA3
    · have hcK : clK tb z n i b = knL tb z n 11 (kn1 tb z n (kn1 tb z n (0, nb tb z b, fun _ => 0, 0))) := if_neg q4
      by_cases e2 : (kn1 tb z n (kn1 tb z n (0, nb tb z b, fun _ => 0, 0))).1 = 0
      · obtain ⟨a1, a2⟩ := kn1_m e2
        obtain ⟨-, a3⟩ := kn1_m a1
        exact more_ q4 11 F3 G3 A3 _ hcK (by rw [a2, a3]; exact Nat.le_refl 13) v1 v2 v3 u1 u2 u3 kF3 kG3 kA3
      · exact bad55 F3 G3 A3 _ (by rw [hcK]; exact knL_bad (fun y => e2 y.1) 11) e2 v3 u1 u2 u3 kF3 kG3 kA3
  refine z_aload_n F dX6_clause_0 rfl ?_
  refine z_callV F (c_mknown F0 G0 A0 B tb z b hz hb hS.1) 0 rfl (lw_V q1793 q1795 qs52 q117 q1796) (by decide +kernel) ⟨Nat.le_of_ble_eq_true rfl, Nat.le_of_ble_eq_true rfl⟩ ⟨by omega, by omega⟩ [0, 1] 2 ⟨rfl, rfl, rfl, ⟨Or.inl rfl, Or.inr rfl, trivial⟩⟩ (fun h => nomatch h) (Nat.le_of_ble_eq_true rfl) ⟨⟨Or.inr trivial, Or.inl rfl, trivial⟩, rfl, rfl, rfl, Nat.le_of_ble_eq_true rfl⟩ rfl zC6 (zat_G0 rfl) rfl dX6_clause_1 (fun r_1 w_1 hp => ?_) (fun _ _ h => h.elim)
  obtain ⟨rfl, rfl⟩ := hp
  rw [ekw]
  refine z_weq (w' := [zH, zG _ _ _ _]) rfl ?_
  refine z_seq (S' := zi _ :: _) rfl ?_
  refine z_istore_n F dX6_clause_4 (Nat.le_of_ble_eq_true rfl) ?_
  refine z_leq (L' := [_, _, _, _, _]) rfl ?_
  refine z_iload_n F dX6_clause_5 rfl ?_
  refine z_if_ltN F (by omega) (tgt := 14) dX6_clause_6 (by decide) (fun c_6 => ?_) (fun c_6 => ?_)
  · exact absurd c_6 (by omega)
  · refine z_iload_n F dX6_clause_9 rfl ?_
    refine z_iconst F (nI 4) dX6_clause_10 rfl ?_
    refine z_icmp_leN F (by omega) (by omega) (tgt := 19) dX6_clause_11 (by decide) (fun c_11 => ?_) (fun c_11 => ?_)
    · refine z_iload_n F dX6_clause_19 rfl ?_
      refine z_bipush F (nI 20) dX6_clause_20 rfl ?_
      refine z_icmp_neN F (by omega) (by omega) (tgt := 30) dX6_clause_22 (by decide) (fun c_22 => ?_) (fun c_22 => ?_)
      · refine z_aload_n F dX6_clause_30 rfl ?_
        refine z_callV F (c_misGood F0 G0 A0 B 0 (by omega) hS.2.1) 0 rfl (lw_V q1804 q1806 qs54 q117 q1807) (by decide +kernel) ⟨Nat.le_of_ble_eq_true rfl, Nat.le_of_ble_eq_true rfl⟩ ⟨by omega, by omega⟩ [0, 1] 2 ⟨rfl, rfl, rfl, ⟨Or.inl rfl, Or.inr rfl, trivial⟩⟩ (fun h => nomatch h) (Nat.le_of_ble_eq_true rfl) ⟨⟨Or.inr trivial, Or.inl rfl, trivial⟩, rfl, rfl, rfl, Nat.le_of_ble_eq_true rfl⟩ rfl zC6 (zat_G0 rfl) rfl dX6_clause_31 (fun r_31 w_31 hp => ?_) (fun _ _ h => h.elim)
        obtain ⟨rfl, rfl⟩ := hp
        refine z_weq (w' := [zH, zG _ _ _ _]) rfl ?_
        refine z_seq (S' := zi _ :: _) rfl ?_
        refine z_if_neB F (tgt := 38) dX6_clause_34 (by decide) (fun c_34 => ?_) (fun c_34 => ?_)
        · refine z_aload_n F dX6_clause_38 rfl ?_
          refine z_callV F (c_mrdGo F0 G0 A0 B tb z (en tb z b) hz ((en_ge tb z b).2 hb) htb hS.1.1 hS.1.2.1 ht) 0 rfl (lw_V q1779 q1781 qs50 q117 q1782) (by decide +kernel) ⟨Nat.le_of_ble_eq_true rfl, Nat.le_of_ble_eq_true rfl⟩ ⟨by omega, by omega⟩ [0, 1] 2 ⟨rfl, rfl, rfl, ⟨Or.inl rfl, Or.inr rfl, trivial⟩⟩ (fun h => nomatch h) (Nat.le_of_ble_eq_true rfl) ⟨⟨Or.inr trivial, Or.inl rfl, trivial⟩, rfl, rfl, rfl, Nat.le_of_ble_eq_true rfl⟩ rfl zC6 (zat_G0 rfl) rfl dX6_clause_39 (fun r_39 w_39 hp => ?_) (fun _ _ h => h.elim)
          obtain ⟨rfl, F2, G2, rfl, m1, m2, m3⟩ := hp
          refine z_weq (w' := [zH, zG _ _ _ _]) rfl ?_
          refine z_seq (S' := []) rfl ?_
          refine z_loc _ ?_ (two F2 G2 ⟨m1, by rw [m2.at 9 rfl]; exact hS.2.1, fun w => absurd rfl w, fun _ => (m2.at 10 rfl).trans (hS.2.2.2 rfl)⟩ (m2.to (by decide)) m3)
          exact ⟨rfl, rfl, trivial⟩
        · cases c_34
      · exact absurd c_22 hc20
    · exact absurd c_11 (by omega)
end C9yw
