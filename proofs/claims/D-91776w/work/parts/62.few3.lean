/-! found, laid, count -/
section C62
abbrev eSm (told : Bool) (pr mn kd fw ls nn : Int32) : zE := zO 4 [zr 12 0, zr 13 0, zr 14 0, zr 15 0, zr 17 0, zi (bI told), zi pr, zi mn, zi kd, zi fw, zi ls, zr 19 0, zr 20 0, zi nn]
def fdV (x : Nat) (mn kd fw ls : Int32) : Int32 := if x = 0 then mn else if x = 1 then kd else if x = 2 then fw else ls
theorem c_pfound (t : Nat) (fp : Int32) (told : Bool) (pr mn kd fw ls nn : Int32) (x : Int32) : zCtr yX1_found_2 cX1_found_2 2 (some .int) 7 1 6 [zr 1 0, zi x] [zH, xO t fp, zH, zH, zH, zH, zH, zH, zH, zH, zH, eSm told pr mn kd fw ls nn, zH, zH, zH, zH, zH, zH, zH, zH, zH, zH] (fun r w => ∃ x', x' < 4 ∧ x = nI x' ∧ told = true ∧ r = some (zi (fdV x' mn kd fw ls)) ∧ w = [zH, xO t fp, zH, zH, zH, zH, zH, zH, zH, zH, zH, eSm told pr mn kd fw ls nn, zH, zH, zH, zH, zH, zH, zH, zH, zH, zH]) (fun E w => E = eNSE ∧ (told && inB x (nI 0) (nI 3)) = false ∧ w = [zH, xO t fp, zH, zH, zH, zH, zH, zH, zH, zH, zH, eSm told pr mn kd fw ls nn, zH, zH, zH, zH, zH, zH, zH, zH, zH, zH]) := by
  refine z_start (by decide) [some (zr 1 0), some (zi x)] rfl (fun _ => Nat.le_of_ble_eq_true rfl) (fun _ => rfl) (fun X F E hno hin => ?_)
  refine z_aload_n F dX1_found_2_0 rfl ?_
  refine z_get F zC1 (f := 7) rfl (Nat.le_of_ble_eq_true rfl) q321 rfl dX1_found_2_1 ?_
  refine z_getN F zC4 (f := 5) rfl (Nat.le_of_ble_eq_true rfl) q271 rfl dX1_found_2_4 ?_
  refine z_if_eqB F (tgt := 23) dX1_found_2_7 (by decide) (fun c_7 => ?_) (fun c_7 => ?_)
  · refine z_iconstB F false dX1_found_2_23 rfl ?_
    refine z_callS F (c_fnd false) 1 rfl (lw_S q433 q434 q109 q435) (by decide +kernel) ⟨Nat.le_of_ble_eq_true rfl, Nat.le_of_ble_eq_true rfl⟩ ⟨by omega, by omega⟩ [0] 22 ⟨rfl, rfl, rfl, ⟨Or.inl rfl, trivial⟩⟩ (fun h => nomatch h) (Nat.le_of_ble_eq_true rfl) ⟨⟨Or.inr trivial, Or.inr rfl, Or.inr trivial, Or.inr trivial, Or.inr trivial, Or.inr trivial, Or.inr trivial, Or.inr trivial, Or.inr trivial, Or.inr trivial, Or.inr trivial, Or.inr rfl, Or.inr trivial, Or.inr trivial, Or.inr trivial, Or.inr trivial, Or.inr trivial, Or.inr trivial, Or.inr trivial, Or.inr trivial, Or.inr trivial, Or.inr trivial, trivial⟩, rfl, rfl, rfl, Nat.le_of_ble_eq_true rfl⟩ rfl rfl dX1_found_2_24 (fun r_24 w_24 hp => ?_) (fun E_ w_ hx => by obtain ⟨rfl, hb, rfl⟩ := hx; exact zx_out F E hno (by omega) (by omega) (⟨rfl, by rw [c_7]; rfl, rfl⟩))
    exact nomatch hp.2.1
  · refine z_iload_n F dX1_found_2_10 rfl ?_
    refine z_iconst F (nI 0) dX1_found_2_11 rfl ?_
    refine z_iconst F (nI 3) dX1_found_2_12 rfl ?_
    refine z_callS F (c_in x (nI 0) (nI 3)) 3 rfl (lw_S q349 q350 q109 q351) (by decide +kernel) ⟨Nat.le_of_ble_eq_true rfl, Nat.le_of_ble_eq_true rfl⟩ ⟨by omega, by omega⟩ [0] 22 ⟨rfl, rfl, rfl, ⟨Or.inl rfl, trivial⟩⟩ (fun h => nomatch h) (Nat.le_of_ble_eq_true rfl) ⟨⟨Or.inr trivial, Or.inr rfl, Or.inr trivial, Or.inr trivial, Or.inr trivial, Or.inr trivial, Or.inr trivial, Or.inr trivial, Or.inr trivial, Or.inr trivial, Or.inr trivial, Or.inr rfl, Or.inr trivial, Or.inr trivial, Or.inr trivial, Or.inr trivial, Or.inr trivial, Or.inr trivial, Or.inr trivial, Or.inr trivial, Or.inr trivial, Or.inr trivial, trivial⟩, rfl, rfl, rfl, Nat.le_of_ble_eq_true rfl⟩ rfl rfl dX1_found_2_13 (fun r_13 w_13 hp => ?_) (fun _ _ h => h.elim)
    obtain ⟨rfl, rfl⟩ := hp
    refine z_weq (w' := [zH, zO _ [zr _ _, zr _ _, zr _ _, zr _ _, zr _ _, zi _, zi _, zr _ _, zr _ _], zH, zH, zH, zH, zH, zH, zH, zH, zH, zO _ [zr _ _, zr _ _, zr _ _, zr _ _, zr _ _, zi _, zi _, zi _, zi _, zi _, zi _, zr _ _, zr _ _, zi _], zH, zH, zH, zH, zH, zH, zH, zH, zH, zH]) rfl ?_
    refine z_seq (S' := zi _ :: _) rfl ?_
    refine z_if_eqB F (tgt := 23) dX1_found_2_16 (by decide) (fun c_16 => ?_) (fun c_16 => ?_)
    · refine z_iconstB F false dX1_found_2_23 rfl ?_
      refine z_callS F (c_fnd false) 1 rfl (lw_S q433 q434 q109 q435) (by decide +kernel) ⟨Nat.le_of_ble_eq_true rfl, Nat.le_of_ble_eq_true rfl⟩ ⟨by omega, by omega⟩ [0] 22 ⟨rfl, rfl, rfl, ⟨Or.inl rfl, trivial⟩⟩ (fun h => nomatch h) (Nat.le_of_ble_eq_true rfl) ⟨⟨Or.inr trivial, Or.inr rfl, Or.inr trivial, Or.inr trivial, Or.inr trivial, Or.inr trivial, Or.inr trivial, Or.inr trivial, Or.inr trivial, Or.inr trivial, Or.inr trivial, Or.inr rfl, Or.inr trivial, Or.inr trivial, Or.inr trivial, Or.inr trivial, Or.inr trivial, Or.inr trivial, Or.inr trivial, Or.inr trivial, Or.inr trivial, Or.inr trivial, trivial⟩, rfl, rfl, rfl, Nat.le_of_ble_eq_true rfl⟩ rfl rfl dX1_found_2_24 (fun r_24 w_24 hp => ?_) (fun E_ w_ hx => by obtain ⟨rfl, hb, rfl⟩ := hx; exact zx_out F E hno (by omega) (by omega) (⟨rfl, by rw [c_7, c_16]; rfl, rfl⟩))
      exact nomatch hp.2.1
    · refine z_iconstB F true dX1_found_2_19 rfl ?_
      refine z_goto F (tgt := 24) dX1_found_2_20 (by decide) ?_
      refine z_callS F (c_fnd true) 1 rfl (lw_S q433 q434 q109 q435) (by decide +kernel) ⟨Nat.le_of_ble_eq_true rfl, Nat.le_of_ble_eq_true rfl⟩ ⟨by omega, by omega⟩ [0] 22 ⟨rfl, rfl, rfl, ⟨Or.inl rfl, trivial⟩⟩ (fun h => nomatch h) (Nat.le_of_ble_eq_true rfl) ⟨⟨Or.inr trivial, Or.inr rfl, Or.inr trivial, Or.inr trivial, Or.inr trivial, Or.inr trivial, Or.inr trivial, Or.inr trivial, Or.inr trivial, Or.inr trivial, Or.inr trivial, Or.inr rfl, Or.inr trivial, Or.inr trivial, Or.inr trivial, Or.inr trivial, Or.inr trivial, Or.inr trivial, Or.inr trivial, Or.inr trivial, Or.inr trivial, Or.inr trivial, trivial⟩, rfl, rfl, rfl, Nat.le_of_ble_eq_true rfl⟩ rfl rfl dX1_found_2_24 (fun r_24 w_24 hp => ?_) (fun E_ w_ hx => by obtain ⟨-, hb, -⟩ := hx; cases hb)
      obtain ⟨rfl, -, rfl⟩ := hp
      obtain ⟨x', -, hx, rfl⟩ := inB_of (by omega) (by omega) c_16
      refine z_weq (w' := [zH, zO _ [zr _ _, zr _ _, zr _ _, zr _ _, zr _ _, zi _, zi _, zr _ _, zr _ _], zH, zH, zH, zH, zH, zH, zH, zH, zH, zO _ [zr _ _, zr _ _, zr _ _, zr _ _, zr _ _, zi _, zi _, zi _, zi _, zi _, zi _, zr _ _, zr _ _, zi _], zH, zH, zH, zH, zH, zH, zH, zH, zH, zH]) rfl ?_
      refine z_seq (S' := []) rfl ?_
      refine z_iload_n F dX1_found_2_27 rfl ?_
      refine z_if_neN F (by omega) (tgt := 41) dX1_found_2_28 (by decide) (fun c_28 => ?_) (fun c_28 => ?_)
      · refine z_iload_n F dX1_found_2_41 rfl ?_
        refine z_iconst F (nI 1) dX1_found_2_42 rfl ?_
        refine z_icmp_neN F (by omega) (by omega) (tgt := 56) dX1_found_2_43 (by decide) (fun c_43 => ?_) (fun c_43 => ?_)
        · refine z_iload_n F dX1_found_2_56 rfl ?_
          refine z_iconst F (nI 2) dX1_found_2_57 rfl ?_
          refine z_icmp_neN F (by omega) (by omega) (tgt := 71) dX1_found_2_58 (by decide) (fun c_58 => ?_) (fun c_58 => ?_)
          · refine z_aload_n F dX1_found_2_71 rfl ?_
            refine z_get F zC1 (f := 7) rfl (Nat.le_of_ble_eq_true rfl) q321 rfl dX1_found_2_72 ?_
            refine z_getN F zC4 (f := 10) rfl (Nat.le_of_ble_eq_true rfl) q280 rfl dX1_found_2_75 ?_
            exact z_iret F E rfl dX1_found_2_78 (by omega) (by omega) (⟨x', by omega, rfl, c_7, by first | (rw [c_28]; rfl) | (rw [c_43]; rfl) | (rw [c_58]; rfl) | (rw [show x' = 3 by omega]; rfl), rfl⟩)
          · refine z_aload_n F dX1_found_2_61 rfl ?_
            refine z_get F zC1 (f := 7) rfl (Nat.le_of_ble_eq_true rfl) q321 rfl dX1_found_2_62 ?_
            refine z_getN F zC4 (f := 9) rfl (Nat.le_of_ble_eq_true rfl) q278 rfl dX1_found_2_65 ?_
            refine z_goto F (tgt := 78) dX1_found_2_68 (by decide) ?_
            exact z_iret F E rfl dX1_found_2_78 (by omega) (by omega) (⟨x', by omega, rfl, c_7, by first | (rw [c_28]; rfl) | (rw [c_43]; rfl) | (rw [c_58]; rfl) | (rw [show x' = 3 by omega]; rfl), rfl⟩)
        · refine z_aload_n F dX1_found_2_46 rfl ?_
          refine z_get F zC1 (f := 7) rfl (Nat.le_of_ble_eq_true rfl) q321 rfl dX1_found_2_47 ?_
          refine z_getN F zC4 (f := 8) rfl (Nat.le_of_ble_eq_true rfl) q276 rfl dX1_found_2_50 ?_
          refine z_goto F (tgt := 78) dX1_found_2_53 (by decide) ?_
          exact z_iret F E rfl dX1_found_2_78 (by omega) (by omega) (⟨x', by omega, rfl, c_7, by first | (rw [c_28]; rfl) | (rw [c_43]; rfl) | (rw [c_58]; rfl) | (rw [show x' = 3 by omega]; rfl), rfl⟩)
      · refine z_aload_n F dX1_found_2_31 rfl ?_
        refine z_get F zC1 (f := 7) rfl (Nat.le_of_ble_eq_true rfl) q321 rfl dX1_found_2_32 ?_
        refine z_getN F zC4 (f := 7) rfl (Nat.le_of_ble_eq_true rfl) q274 rfl dX1_found_2_35 ?_
        refine z_goto F (tgt := 78) dX1_found_2_38 (by decide) ?_
        exact z_iret F E rfl dX1_found_2_78 (by omega) (by omega) (⟨x', by omega, rfl, c_7, by first | (rw [c_28]; rfl) | (rw [c_43]; rfl) | (rw [c_58]; rfl) | (rw [show x' = 3 by omega]; rfl), rfl⟩)
theorem c_mfound_ok (F0 : Nat → Int32) (G : Nat → Int64) (A : Nat → Nat → Int32) (B : Nat → Nat → Int64) (x : Nat) (hx : x < 4) (h45 : F0 45 = bI true) :
    zCtr yX6_found cX6_found 2 (some .int) 2 0 0 [zr 1 0, zi (nI x)] [zH, zG F0 G A B] (fun r w => r = some (zi (fdV x (F0 46) (F0 47) (F0 48) (F0 49))) ∧ w = [zH, zG (upd F0 0 (nI 0)) G A B]) zNx := by
  refine z_start (by decide) [some (zr 1 0), some (zi (nI x))] rfl (fun _ => Nat.le_of_ble_eq_true rfl) (fun _ => rfl) (fun X F E hno hin => ?_)
  refine z_aload_n F dX6_found_0 rfl ?_
  refine z_iconst F (nI 0) dX6_found_1 rfl ?_
  refine z_pmi F rfl 0 rfl (Nat.le_of_ble_eq_true rfl) rfl q1480 rfl rfl rfl dX6_found_2 ?_
  refine z_weq (w' := [_, _]) rfl ?_
  refine z_aload_n F dX6_found_5 rfl ?_
  refine z_aload_n F dX6_found_6 rfl ?_
  refine z_mi F rfl 45 rfl (Nat.le_of_ble_eq_true rfl) rfl q1525 dX6_found_7 ?_
  refine z_ieq ((show _ = bI true from h45)) ?_
  refine z_if_eqB F (tgt := 26) dX6_found_10 (by decide) (fun c_10 => ?_) (fun c_10 => ?_)
  · cases c_10
  · refine z_iload_n F dX6_found_13 rfl ?_
    refine z_if_ltN F (by omega) (tgt := 26) dX6_found_14 (by decide) (fun c_14 => ?_) (fun c_14 => ?_)
    · exact absurd c_14 (by omega)
    · refine z_iload_n F dX6_found_17 rfl ?_
      refine z_iconst F (nI 3) dX6_found_18 rfl ?_
      refine z_icmp_gtN F (by omega) (by omega) (tgt := 26) dX6_found_19 (by decide) (fun c_19 => ?_) (fun c_19 => ?_)
      · exact absurd c_19 (by omega)
      · refine z_iconstB F true dX6_found_22 rfl ?_
        refine z_goto F (tgt := 27) dX6_found_23 (by decide) ?_
        refine z_iconst F (nI 1) dX6_found_27 rfl ?_
        refine z_callV F (c_right (upd F0 0 (nI 0)) _ _ _ true 1 rfl (by omega) (by omega)) 2 rfl (lw_V q1736 q1738 qs43 q117 q1739) (by decide +kernel) ⟨Nat.le_of_ble_eq_true rfl, Nat.le_of_ble_eq_true rfl⟩ ⟨by omega, by omega⟩ [0, 1] 2 ⟨rfl, rfl, rfl, ⟨Or.inl rfl, Or.inr rfl, trivial⟩⟩ (fun h => nomatch h) (Nat.le_of_ble_eq_true rfl) ⟨⟨Or.inr trivial, Or.inl rfl, trivial⟩, rfl, rfl, rfl, Nat.le_of_ble_eq_true rfl⟩ rfl zC6 (zat_G0 rfl) rfl dX6_found_28 (fun r_28 w_28 hp => ?_) (fun _ _ h => h.elim)
        obtain ⟨rfl, rfl⟩ := hp
        refine z_weq (w' := [zH, zG _ _ _ _]) rfl ?_
        refine z_seq (S' := zi _ :: _) rfl ?_
        refine z_if_neB F (tgt := 36) dX6_found_31 (by decide) (fun c_31 => ?_) (fun c_31 => ?_)
        · refine z_iload_n F dX6_found_36 rfl ?_
          refine z_if_neN F (by omega) (tgt := 47) dX6_found_37 (by decide) (fun c_37 => ?_) (fun c_37 => ?_)
          · refine z_iload_n F dX6_found_47 rfl ?_
            refine z_iconst F (nI 1) dX6_found_48 rfl ?_
            refine z_icmp_neN F (by omega) (by omega) (tgt := 59) dX6_found_49 (by decide) (fun c_49 => ?_) (fun c_49 => ?_)
            · refine z_iload_n F dX6_found_59 rfl ?_
              refine z_iconst F (nI 2) dX6_found_60 rfl ?_
              refine z_icmp_neN F (by omega) (by omega) (tgt := 71) dX6_found_61 (by decide) (fun c_61 => ?_) (fun c_61 => ?_)
              · refine z_aload_n F dX6_found_71 rfl ?_
                refine z_mi F rfl 49 rfl (Nat.le_of_ble_eq_true rfl) rfl q1529 dX6_found_72 ?_
                exact z_iret F E rfl dX6_found_75 (by omega) (by omega) (⟨by first | (rw [c_37]; rfl) | (rw [c_49]; rfl) | (rw [c_61]; rfl) | (rw [show x = 3 by omega]; rfl), rfl⟩)
              · refine z_aload_n F dX6_found_64 rfl ?_
                refine z_mi F rfl 48 rfl (Nat.le_of_ble_eq_true rfl) rfl q1528 dX6_found_65 ?_
                refine z_goto F (tgt := 75) dX6_found_68 (by decide) ?_
                exact z_iret F E rfl dX6_found_75 (by omega) (by omega) (⟨by first | (rw [c_37]; rfl) | (rw [c_49]; rfl) | (rw [c_61]; rfl) | (rw [show x = 3 by omega]; rfl), rfl⟩)
            · refine z_aload_n F dX6_found_52 rfl ?_
              refine z_mi F rfl 47 rfl (Nat.le_of_ble_eq_true rfl) rfl q1527 dX6_found_53 ?_
              refine z_goto F (tgt := 75) dX6_found_56 (by decide) ?_
              exact z_iret F E rfl dX6_found_75 (by omega) (by omega) (⟨by first | (rw [c_37]; rfl) | (rw [c_49]; rfl) | (rw [c_61]; rfl) | (rw [show x = 3 by omega]; rfl), rfl⟩)
          · refine z_aload_n F dX6_found_40 rfl ?_
            refine z_mi F rfl 46 rfl (Nat.le_of_ble_eq_true rfl) rfl q1526 dX6_found_41 ?_
            refine z_goto F (tgt := 75) dX6_found_44 (by decide) ?_
            exact z_iret F E rfl dX6_found_75 (by omega) (by omega) (⟨by first | (rw [c_37]; rfl) | (rw [c_49]; rfl) | (rw [c_61]; rfl) | (rw [show x = 3 by omega]; rfl), rfl⟩)
        · cases c_31
theorem c_mfound_bad (F0 : Nat → Int32) (G : Nat → Int64) (A : Nat → Nat → Int32) (B : Nat → Nat → Int64) (told : Bool) (x : Int32) (h45 : F0 45 = bI told) (hx : (told && inB x (nI 0) (nI 3)) = false) :
    zCtr yX6_found cX6_found 2 (some .int) 2 0 0 [zr 1 0, zi x] [zH, zG F0 G A B] (fun r w => r = some (zi (nI 0)) ∧ w = [zH, zG (upd F0 0 (nI 1)) G A B]) zNx := by
  refine z_start (by decide) [some (zr 1 0), some (zi x)] rfl (fun _ => Nat.le_of_ble_eq_true rfl) (fun _ => rfl) (fun X F E hno hin => ?_)
  refine z_aload_n F dX6_found_0 rfl ?_
  refine z_iconst F (nI 0) dX6_found_1 rfl ?_
  refine z_pmi F rfl 0 rfl (Nat.le_of_ble_eq_true rfl) rfl q1480 rfl rfl rfl dX6_found_2 ?_
  refine z_weq (w' := [_, _]) rfl ?_
  refine z_aload_n F dX6_found_5 rfl ?_
  refine z_aload_n F dX6_found_6 rfl ?_
  refine z_mi F rfl 45 rfl (Nat.le_of_ble_eq_true rfl) rfl q1525 dX6_found_7 ?_
  refine z_ieq ((show _ = bI told from h45)) ?_
  refine z_if_eqB F (tgt := 26) dX6_found_10 (by decide) (fun c_10 => ?_) (fun c_10 => ?_)
  · refine z_iconstB F false dX6_found_26 rfl ?_
    refine z_iconst F (nI 1) dX6_found_27 rfl ?_
    refine z_callV F (c_right (upd F0 0 (nI 0)) _ _ _ false 1 rfl (by omega) (by omega)) 2 rfl (lw_V q1736 q1738 qs43 q117 q1739) (by decide +kernel) ⟨Nat.le_of_ble_eq_true rfl, Nat.le_of_ble_eq_true rfl⟩ ⟨by omega, by omega⟩ [0, 1] 2 ⟨rfl, rfl, rfl, ⟨Or.inl rfl, Or.inr rfl, trivial⟩⟩ (fun h => nomatch h) (Nat.le_of_ble_eq_true rfl) ⟨⟨Or.inr trivial, Or.inl rfl, trivial⟩, rfl, rfl, rfl, Nat.le_of_ble_eq_true rfl⟩ rfl zC6 (zat_G0 rfl) rfl dX6_found_28 (fun r_28 w_28 hp => ?_) (fun _ _ h => h.elim)
    obtain ⟨rfl, rfl⟩ := hp
    refine z_weq (w' := [zH, zG _ _ _ _]) rfl ?_
    refine z_seq (S' := zi _ :: _) rfl ?_
    refine z_if_neB F (tgt := 36) dX6_found_31 (by decide) (fun c_31 => ?_) (fun c_31 => ?_)
    · cases c_31
    · refine z_iconst F (nI 0) dX6_found_34 rfl ?_
      exact z_iret F E rfl dX6_found_35 (by omega) (by omega) (⟨rfl, by rw [if_neg (by decide), upd_upd]⟩)
  · refine z_iload_n F dX6_found_13 rfl ?_
    refine z_if_lt F (tgt := 26) dX6_found_14 (by decide) (fun c_14 => ?_) (fun c_14 => ?_)
    · refine z_iconstB F false dX6_found_26 rfl ?_
      refine z_iconst F (nI 1) dX6_found_27 rfl ?_
      refine z_callV F (c_right (upd F0 0 (nI 0)) _ _ _ false 1 rfl (by omega) (by omega)) 2 rfl (lw_V q1736 q1738 qs43 q117 q1739) (by decide +kernel) ⟨Nat.le_of_ble_eq_true rfl, Nat.le_of_ble_eq_true rfl⟩ ⟨by omega, by omega⟩ [0, 1] 2 ⟨rfl, rfl, rfl, ⟨Or.inl rfl, Or.inr rfl, trivial⟩⟩ (fun h => nomatch h) (Nat.le_of_ble_eq_true rfl) ⟨⟨Or.inr trivial, Or.inl rfl, trivial⟩, rfl, rfl, rfl, Nat.le_of_ble_eq_true rfl⟩ rfl zC6 (zat_G0 rfl) rfl dX6_found_28 (fun r_28 w_28 hp => ?_) (fun _ _ h => h.elim)
      obtain ⟨rfl, rfl⟩ := hp
      refine z_weq (w' := [zH, zG _ _ _ _]) rfl ?_
      refine z_seq (S' := zi _ :: _) rfl ?_
      refine z_if_neB F (tgt := 36) dX6_found_31 (by decide) (fun c_31 => ?_) (fun c_31 => ?_)
      · cases c_31
      · refine z_iconst F (nI 0) dX6_found_34 rfl ?_
        exact z_iret F E rfl dX6_found_35 (by omega) (by omega) (⟨rfl, by rw [if_neg (by decide), upd_upd]⟩)
    · refine z_iload_n F dX6_found_17 rfl ?_
      refine z_iconst F (nI 3) dX6_found_18 rfl ?_
      refine z_icmp_gt F (tgt := 26) dX6_found_19 (by decide) (fun c_19 => ?_) (fun c_19 => ?_)
      · refine z_iconstB F false dX6_found_26 rfl ?_
        refine z_iconst F (nI 1) dX6_found_27 rfl ?_
        refine z_callV F (c_right (upd F0 0 (nI 0)) _ _ _ false 1 rfl (by omega) (by omega)) 2 rfl (lw_V q1736 q1738 qs43 q117 q1739) (by decide +kernel) ⟨Nat.le_of_ble_eq_true rfl, Nat.le_of_ble_eq_true rfl⟩ ⟨by omega, by omega⟩ [0, 1] 2 ⟨rfl, rfl, rfl, ⟨Or.inl rfl, Or.inr rfl, trivial⟩⟩ (fun h => nomatch h) (Nat.le_of_ble_eq_true rfl) ⟨⟨Or.inr trivial, Or.inl rfl, trivial⟩, rfl, rfl, rfl, Nat.le_of_ble_eq_true rfl⟩ rfl zC6 (zat_G0 rfl) rfl dX6_found_28 (fun r_28 w_28 hp => ?_) (fun _ _ h => h.elim)
        obtain ⟨rfl, rfl⟩ := hp
        refine z_weq (w' := [zH, zG _ _ _ _]) rfl ?_
        refine z_seq (S' := zi _ :: _) rfl ?_
        refine z_if_neB F (tgt := 36) dX6_found_31 (by decide) (fun c_31 => ?_) (fun c_31 => ?_)
        · cases c_31
        · refine z_iconst F (nI 0) dX6_found_34 rfl ?_
          exact z_iret F E rfl dX6_found_35 (by omega) (by omega) (⟨rfl, by rw [if_neg (by decide), upd_upd]⟩)
      · rw [c_10, Bool.true_and] at hx
        exact (inB_ff hx c_14 (Int32.not_lt.mpr (Int32.not_lt.mp c_19))).elim
theorem c_plaid (t : Nat) (fp : Int32) (N : Nat) (g : Nat → Int32) (hN : N ≤ 24) (x : Int32) : zCtr yX1_laid cX1_laid 2 (some .int) 7 1 6 [zr 1 0, zi x] [zH, xO t fp, zH, zH, zH, zH, zH, zH, zH, zH, zH, zH, zH, zH, zH, zH, zH, zH, zH, zH, zH, zAi 0 N g] (fun r w => ∃ x', x' < N ∧ x = nI x' ∧ r = some (zi (g x')) ∧ w = [zH, xO t fp, zH, zH, zH, zH, zH, zH, zH, zH, zH, zH, zH, zH, zH, zH, zH, zH, zH, zH, zH, zAi 0 N g]) (fun E w => E = eNSE ∧ (∀ i, i < N → x ≠ nI i) ∧ w = [zH, xO t fp, zH, zH, zH, zH, zH, zH, zH, zH, zH, zH, zH, zH, zH, zH, zH, zH, zH, zH, zH, zAi 0 N g]) := by
  refine z_start (by decide) [some (zr 1 0), some (zi x)] rfl (fun _ => Nat.le_of_ble_eq_true rfl) (fun _ => rfl) (fun X F E hno hin => ?_)
  refine z_iload_n F dX1_laid_0 rfl ?_
  refine z_iconst F (nI 0) dX1_laid_1 rfl ?_
  refine z_aload_n F dX1_laid_2 rfl ?_
  refine z_get F zC1 (f := 8) rfl (Nat.le_of_ble_eq_true rfl) q322 rfl dX1_laid_3 ?_
  refine z_alenN F (fun _ => rfl) rfl dX1_laid_6 ?_
  refine z_iconst F (nI 1) dX1_laid_7 rfl ?_
  refine z_isub F dX1_laid_8 ?_
  refine z_callS F (c_in x (nI 0) (nI N - 1)) 3 rfl (lw_S q349 q350 q109 q351) (by decide +kernel) ⟨Nat.le_of_ble_eq_true rfl, Nat.le_of_ble_eq_true rfl⟩ ⟨by omega, by omega⟩ [0] 22 ⟨rfl, rfl, rfl, ⟨Or.inl rfl, trivial⟩⟩ (fun h => nomatch h) (Nat.le_of_ble_eq_true rfl) ⟨⟨Or.inr trivial, Or.inr rfl, Or.inr trivial, Or.inr trivial, Or.inr trivial, Or.inr trivial, Or.inr trivial, Or.inr trivial, Or.inr trivial, Or.inr trivial, Or.inr trivial, Or.inr trivial, Or.inr trivial, Or.inr trivial, Or.inr trivial, Or.inr trivial, Or.inr trivial, Or.inr trivial, Or.inr trivial, Or.inr trivial, Or.inr trivial, Or.inr trivial, trivial⟩, rfl, rfl, rfl, Nat.le_of_ble_eq_true rfl⟩ rfl rfl dX1_laid_9 (fun r_9 w_9 hp => ?_) (fun _ _ h => h.elim)
  obtain ⟨rfl, rfl⟩ := hp
  refine z_weq (w' := [zH, zO _ [zr _ _, zr _ _, zr _ _, zr _ _, zr _ _, zi _, zi _, zr _ _, zr _ _], zH, zH, zH, zH, zH, zH, zH, zH, zH, zH, zH, zH, zH, zH, zH, zH, zH, zH, zH, zAi 0 N _]) rfl ?_
  refine z_seq (S' := zi _ :: _) rfl ?_
  refine z_callS F (c_fnd (inB x (nI 0) (nI N - 1))) 1 rfl (lw_S q433 q434 q109 q435) (by decide +kernel) ⟨Nat.le_of_ble_eq_true rfl, Nat.le_of_ble_eq_true rfl⟩ ⟨by omega, by omega⟩ [0] 22 ⟨rfl, rfl, rfl, ⟨Or.inl rfl, trivial⟩⟩ (fun h => nomatch h) (Nat.le_of_ble_eq_true rfl) ⟨⟨Or.inr trivial, Or.inr rfl, Or.inr trivial, Or.inr trivial, Or.inr trivial, Or.inr trivial, Or.inr trivial, Or.inr trivial, Or.inr trivial, Or.inr trivial, Or.inr trivial, Or.inr trivial, Or.inr trivial, Or.inr trivial, Or.inr trivial, Or.inr trivial, Or.inr trivial, Or.inr trivial, Or.inr trivial, Or.inr trivial, Or.inr trivial, Or.inr trivial, trivial⟩, rfl, rfl, rfl, Nat.le_of_ble_eq_true rfl⟩ rfl rfl dX1_laid_12 (fun r_12 w_12 hp => ?_) (fun E_ w_ hx => by obtain ⟨rfl, hb, rfl⟩ := hx; exact zx_out F E hno (by omega) (by omega) (⟨rfl, fun i hi e => (by rw [e, inB_len2 (by omega) hi] at hb; cases hb), rfl⟩))
  obtain ⟨rfl, hb, rfl⟩ := hp
  obtain ⟨i, hi, rfl⟩ := inB_len (by omega) hb
  refine z_weq (w' := [zH, zO _ [zr _ _, zr _ _, zr _ _, zr _ _, zr _ _, zi _, zi _, zr _ _, zr _ _], zH, zH, zH, zH, zH, zH, zH, zH, zH, zH, zH, zH, zH, zH, zH, zH, zH, zH, zH, zAi 0 N _]) rfl ?_
  refine z_seq (S' := []) rfl ?_
  refine z_aload_n F dX1_laid_15 rfl ?_
  refine z_get F zC1 (f := 8) rfl (Nat.le_of_ble_eq_true rfl) q322 rfl dX1_laid_16 ?_
  refine z_iload_n F dX1_laid_19 rfl ?_
  refine z_ialdN F rfl (by omega) (by omega) rfl dX1_laid_20 ?_
  exact z_iret F E rfl dX1_laid_21 (by omega) (by omega) (⟨i, hi, rfl, rfl, rfl⟩)
theorem c_mlaid_ok (F0 : Nat → Int32) (G : Nat → Int64) (A : Nat → Nat → Int32) (B : Nat → Nat → Int64) (N x : Nat) (hN : N ≤ 24) (hx : x < N) (h60 : F0 60 = nI N) :
    zCtr yX6_laid cX6_laid 2 (some .int) 2 0 0 [zr 1 0, zi (nI x)] [zH, zG F0 G A B] (fun r w => r = some (zi (A 62 x)) ∧ w = [zH, zG (upd F0 0 (nI 0)) G A B]) zNx := by
  refine z_start (by decide) [some (zr 1 0), some (zi (nI x))] rfl (fun _ => Nat.le_of_ble_eq_true rfl) (fun _ => rfl) (fun X F E hno hin => ?_)
  refine z_aload_n F dX6_laid_0 rfl ?_
  refine z_iconst F (nI 0) dX6_laid_1 rfl ?_
  refine z_pmi F rfl 0 rfl (Nat.le_of_ble_eq_true rfl) rfl q1480 rfl rfl rfl dX6_laid_2 ?_
  refine z_weq (w' := [_, _]) rfl ?_
  refine z_aload_n F dX6_laid_5 rfl ?_
  refine z_iload_n F dX6_laid_6 rfl ?_
  refine z_if_ltN F (by omega) (tgt := 22) dX6_laid_7 (by decide) (fun c_7 => ?_) (fun c_7 => ?_)
  · exact absurd c_7 (by omega)
  · refine z_iload_n F dX6_laid_10 rfl ?_
    refine z_aload_n F dX6_laid_11 rfl ?_
    refine z_mi F rfl 60 rfl (Nat.le_of_ble_eq_true rfl) rfl q1540 dX6_laid_12 ?_
    refine z_ieq ((show _ = nI N from h60)) ?_
    refine z_icmp_geN F (by omega) (by omega) (tgt := 22) dX6_laid_15 (by decide) (fun c_15 => ?_) (fun c_15 => ?_)
    · exact absurd c_15 (by omega)
    · refine z_iconstB F true dX6_laid_18 rfl ?_
      refine z_goto F (tgt := 23) dX6_laid_19 (by decide) ?_
      refine z_iconst F (nI 1) dX6_laid_23 rfl ?_
      refine z_callV F (c_right (upd F0 0 (nI 0)) _ _ _ true 1 rfl (by omega) (by omega)) 2 rfl (lw_V q1736 q1738 qs43 q117 q1739) (by decide +kernel) ⟨Nat.le_of_ble_eq_true rfl, Nat.le_of_ble_eq_true rfl⟩ ⟨by omega, by omega⟩ [0, 1] 2 ⟨rfl, rfl, rfl, ⟨Or.inl rfl, Or.inr rfl, trivial⟩⟩ (fun h => nomatch h) (Nat.le_of_ble_eq_true rfl) ⟨⟨Or.inr trivial, Or.inl rfl, trivial⟩, rfl, rfl, rfl, Nat.le_of_ble_eq_true rfl⟩ rfl zC6 (zat_G0 rfl) rfl dX6_laid_24 (fun r_24 w_24 hp => ?_) (fun _ _ h => h.elim)
      obtain ⟨rfl, rfl⟩ := hp
      refine z_weq (w' := [zH, zG _ _ _ _]) rfl ?_
      refine z_seq (S' := zi _ :: _) rfl ?_
      refine z_if_eqB F (tgt := 39) dX6_laid_27 (by decide) (fun c_27 => ?_) (fun c_27 => ?_)
      · cases c_27
      · refine z_aload_n F dX6_laid_30 rfl ?_
        refine z_ma F rfl 62 rfl (Nat.le_of_ble_eq_true rfl) rfl q1542 dX6_laid_31 ?_
        refine z_iload_n F dX6_laid_34 rfl ?_
        refine z_ialdGN F rfl rfl (Nat.le_of_ble_eq_true rfl) (by omega) rfl dX6_laid_35 ?_
        refine z_goto F (tgt := 40) dX6_laid_36 (by decide) ?_
        exact z_iret F E rfl dX6_laid_40 (by omega) (by omega) (⟨rfl, rfl⟩)
theorem c_mlaid_bad (F0 : Nat → Int32) (G : Nat → Int64) (A : Nat → Nat → Int32) (B : Nat → Nat → Int64) (N : Nat) (x : Int32) (hN : N ≤ 24) (hx : ∀ i, i < N → x ≠ nI i) (h60 : F0 60 = nI N) :
    zCtr yX6_laid cX6_laid 2 (some .int) 2 0 0 [zr 1 0, zi x] [zH, zG F0 G A B] (fun r w => r = some (zi (nI 0)) ∧ w = [zH, zG (upd F0 0 (nI 1)) G A B]) zNx := by
  refine z_start (by decide) [some (zr 1 0), some (zi x)] rfl (fun _ => Nat.le_of_ble_eq_true rfl) (fun _ => rfl) (fun X F E hno hin => ?_)
  refine z_aload_n F dX6_laid_0 rfl ?_
  refine z_iconst F (nI 0) dX6_laid_1 rfl ?_
  refine z_pmi F rfl 0 rfl (Nat.le_of_ble_eq_true rfl) rfl q1480 rfl rfl rfl dX6_laid_2 ?_
  refine z_weq (w' := [_, _]) rfl ?_
  refine z_aload_n F dX6_laid_5 rfl ?_
  refine z_iload_n F dX6_laid_6 rfl ?_
  refine z_if_lt F (tgt := 22) dX6_laid_7 (by decide) (fun c_7 => ?_) (fun c_7 => ?_)
  · refine z_iconstB F false dX6_laid_22 rfl ?_
    refine z_iconst F (nI 1) dX6_laid_23 rfl ?_
    refine z_callV F (c_right (upd F0 0 (nI 0)) _ _ _ false 1 rfl (by omega) (by omega)) 2 rfl (lw_V q1736 q1738 qs43 q117 q1739) (by decide +kernel) ⟨Nat.le_of_ble_eq_true rfl, Nat.le_of_ble_eq_true rfl⟩ ⟨by omega, by omega⟩ [0, 1] 2 ⟨rfl, rfl, rfl, ⟨Or.inl rfl, Or.inr rfl, trivial⟩⟩ (fun h => nomatch h) (Nat.le_of_ble_eq_true rfl) ⟨⟨Or.inr trivial, Or.inl rfl, trivial⟩, rfl, rfl, rfl, Nat.le_of_ble_eq_true rfl⟩ rfl zC6 (zat_G0 rfl) rfl dX6_laid_24 (fun r_24 w_24 hp => ?_) (fun _ _ h => h.elim)
    obtain ⟨rfl, rfl⟩ := hp
    refine z_weq (w' := [zH, zG _ _ _ _]) rfl ?_
    refine z_seq (S' := zi _ :: _) rfl ?_
    refine z_if_eqB F (tgt := 39) dX6_laid_27 (by decide) (fun c_27 => ?_) (fun c_27 => ?_)
    · refine z_iconst F (nI 0) dX6_laid_39 rfl ?_
      exact z_iret F E rfl dX6_laid_40 (by omega) (by omega) (⟨rfl, by rw [if_neg (by decide), upd_upd]⟩)
    · cases c_27
  · refine z_iload_n F dX6_laid_10 rfl ?_
    refine z_aload_n F dX6_laid_11 rfl ?_
    refine z_mi F rfl 60 rfl (Nat.le_of_ble_eq_true rfl) rfl q1540 dX6_laid_12 ?_
    refine z_ieq ((show _ = nI N from h60)) ?_
    refine z_icmp_ge F (tgt := 22) dX6_laid_15 (by decide) (fun c_15 => ?_) (fun c_15 => ?_)
    · refine z_iconstB F false dX6_laid_22 rfl ?_
      refine z_iconst F (nI 1) dX6_laid_23 rfl ?_
      refine z_callV F (c_right (upd F0 0 (nI 0)) _ _ _ false 1 rfl (by omega) (by omega)) 2 rfl (lw_V q1736 q1738 qs43 q117 q1739) (by decide +kernel) ⟨Nat.le_of_ble_eq_true rfl, Nat.le_of_ble_eq_true rfl⟩ ⟨by omega, by omega⟩ [0, 1] 2 ⟨rfl, rfl, rfl, ⟨Or.inl rfl, Or.inr rfl, trivial⟩⟩ (fun h => nomatch h) (Nat.le_of_ble_eq_true rfl) ⟨⟨Or.inr trivial, Or.inl rfl, trivial⟩, rfl, rfl, rfl, Nat.le_of_ble_eq_true rfl⟩ rfl zC6 (zat_G0 rfl) rfl dX6_laid_24 (fun r_24 w_24 hp => ?_) (fun _ _ h => h.elim)
      obtain ⟨rfl, rfl⟩ := hp
      refine z_weq (w' := [zH, zG _ _ _ _]) rfl ?_
      refine z_seq (S' := zi _ :: _) rfl ?_
      refine z_if_eqB F (tgt := 39) dX6_laid_27 (by decide) (fun c_27 => ?_) (fun c_27 => ?_)
      · refine z_iconst F (nI 0) dX6_laid_39 rfl ?_
        exact z_iret F E rfl dX6_laid_40 (by omega) (by omega) (⟨rfl, by rw [if_neg (by decide), upd_upd]⟩)
      · cases c_27
    · obtain ⟨i, hi, e⟩ := nI_of c_7
      exact absurd e (hx i ((nI_ltI hi (by omega)).mp (by rw [← e]; exact Int32.not_le.mp c_15)))
theorem c_pcount (P : zPt) (t : Nat) (fp : Int32) (x : Nat) (hx : x < 2) : zCtr yX1_count cX1_count 4 (some .int) 7 1 6 [zr 1 0, zi (nI x)] (xH P t fp) (fun r w => r = some (zi (nI (if x = 1 then t else fb_ct (fun s => (P s).isSome) 8))) ∧ w = xH P t fp) zNx := by
  refine z_start (by decide) [some (zr 1 0), some (zi (nI x)), none, none] rfl (fun _ => Nat.le_of_ble_eq_true rfl) (fun _ => rfl) (fun X F E hno hin => ?_)
  have loop : x = 0 → ∀ (m s : Nat), 8 - s < m → s ≤ 8 → Z X [some (zr 1 0), some (zi (nI x)), some (zi (nI (fb_ct (fun s => (P s).isSome) s))), some (zi (nI s))] [] (xH P t fp) 1 6 31 := by
    intro hx0 m
    induction m with
    | zero => intro s hm; omega
    | succ m ih =>
      intro s hm hs
      by_cases e : s = 8
      · subst e
        refine z_iload_n F dX1_count_31 rfl ?_
        refine z_bipush F (nI 8) dX1_count_32 rfl ?_
        refine z_icmp_geN F (by omega) (by omega) (tgt := 55) dX1_count_34 (by decide) (fun c_34 => ?_) (fun c_34 => ?_)
        · refine z_iload_n F dX1_count_55 rfl ?_
          exact z_iret F E rfl dX1_count_56 (by omega) (by omega) (⟨by rw [if_neg (by omega)], rfl⟩)
        · exact absurd c_34 (by omega)
      · rcases hP : P s with _ | q
        · have hh := ih (s + 1) (by omega) (by omega)
          rw [fb_ct_succ, hP] at hh
          refine z_iload_n F dX1_count_31 rfl ?_
          refine z_bipush F (nI 8) dX1_count_32 rfl ?_
          refine z_icmp_geN F (by omega) (by omega) (tgt := 55) dX1_count_34 (by decide) (fun c_34 => ?_) (fun c_34 => ?_)
          · exact absurd c_34 (by omega)
          · refine z_aload_n F dX1_count_37 rfl ?_
            refine z_get F zC1 (f := 0) rfl (Nat.le_of_ble_eq_true rfl) q313 rfl dX1_count_38 ?_
            refine z_iload_n F dX1_count_41 rfl ?_
            refine z_aaldP F (by omega) (pR_none hP) (Or.inr (Or.inr rfl)) dX1_count_42 ?_
            refine z_ifnullN F (tgt := 49) dX1_count_43 (by decide) ?_
            refine z_iincN F 1 dX1_count_49 rfl rfl ?_
            refine z_leq (L' := [_, _, _, _]) rfl ?_
            refine z_goto F (tgt := 31) dX1_count_52 (by decide) ?_
            exact hh
        · have hh := ih (s + 1) (by omega) (by omega)
          rw [fb_ct_succ, hP] at hh
          refine z_iload_n F dX1_count_31 rfl ?_
          refine z_bipush F (nI 8) dX1_count_32 rfl ?_
          refine z_icmp_geN F (by omega) (by omega) (tgt := 55) dX1_count_34 (by decide) (fun c_34 => ?_) (fun c_34 => ?_)
          · exact absurd c_34 (by omega)
          · refine z_aload_n F dX1_count_37 rfl ?_
            refine z_get F zC1 (f := 0) rfl (Nat.le_of_ble_eq_true rfl) q313 rfl dX1_count_38 ?_
            refine z_iload_n F dX1_count_41 rfl ?_
            refine z_aaldP F (by omega) (pR_some hP) (Or.inl ⟨_, rfl⟩) dX1_count_42 ?_
            refine z_ifnull F dX1_count_43 ?_
            refine z_iincN F 1 dX1_count_46 rfl rfl ?_
            refine z_leq (L' := [_, _, _, _]) rfl ?_
            refine z_iincN F 1 dX1_count_49 rfl rfl ?_
            refine z_leq (L' := [_, _, _, _]) rfl ?_
            refine z_goto F (tgt := 31) dX1_count_52 (by decide) ?_
            exact hh
  refine z_iload_n F dX1_count_0 rfl ?_
  refine z_if_eqN F (by omega) (tgt := 9) dX1_count_1 (by decide) (fun c_1 => ?_) (fun c_1 => ?_)
  · refine z_iconstB F true dX1_count_9 rfl ?_
    refine z_goto F (tgt := 14) dX1_count_10 (by decide) ?_
    refine z_callS F (c_fnd true) 1 rfl (lw_S q433 q434 q109 q435) (by decide +kernel) ⟨Nat.le_of_ble_eq_true rfl, Nat.le_of_ble_eq_true rfl⟩ ⟨by omega, by omega⟩ [0] 22 ⟨rfl, rfl, rfl, ⟨Or.inl rfl, trivial⟩⟩ (fun h => nomatch h) (Nat.le_of_ble_eq_true rfl) ⟨⟨Or.inr (by first | exact ⟨rfl, pR_B _ (by decide)⟩ | exact ⟨rfl, uR_B (by decide) (by decide)⟩), Or.inr rfl, Or.inr trivial, Or.inr trivial, Or.inr trivial, Or.inr trivial, Or.inr trivial, Or.inr trivial, Or.inr trivial, Or.inr trivial, Or.inr trivial, Or.inr trivial, Or.inr trivial, Or.inr trivial, Or.inr trivial, Or.inr trivial, Or.inr trivial, Or.inr trivial, Or.inr trivial, Or.inr trivial, Or.inr trivial, Or.inr trivial, trivial⟩, rfl, rfl, rfl, Nat.le_of_ble_eq_true rfl⟩ rfl rfl dX1_count_14 (fun r_14 w_14 hp => ?_) (fun E_ w_ hx => by obtain ⟨-, hb, -⟩ := hx; cases hb)
    obtain ⟨rfl, -, rfl⟩ := hp
    refine z_weq (w' := [zPl _ _, zO _ [zr _ _, zr _ _, zr _ _, zr _ _, zr _ _, zi _, zi _, zr _ _, zr _ _], zH, zH, zH, zH, zH, zH, zH, zH, zH, zH, zH, zH, zH, zH, zH, zH, zH, zH, zH, zH]) rfl ?_
    refine z_seq (S' := []) rfl ?_
    refine z_iload_n F dX1_count_17 rfl ?_
    refine z_iconst F (nI 1) dX1_count_18 rfl ?_
    refine z_icmp_neN F (by omega) (by omega) (tgt := 27) dX1_count_19 (by decide) (fun c_19 => ?_) (fun c_19 => ?_)
    · refine z_iconst F (nI 0) dX1_count_27 rfl ?_
      refine z_istore_n F dX1_count_28 (Nat.le_of_ble_eq_true rfl) ?_
      refine z_leq (L' := [_, _, _, _]) rfl ?_
      refine z_iconst F (nI 0) dX1_count_29 rfl ?_
      refine z_istore_n F dX1_count_30 (Nat.le_of_ble_eq_true rfl) ?_
      refine z_leq (L' := [_, _, _, _]) rfl ?_
      exact loop (by omega) _ 0 (Nat.lt_succ_self _) (by omega)
    · refine z_aload_n F dX1_count_22 rfl ?_
      refine z_get F zC1 (f := 5) rfl (Nat.le_of_ble_eq_true rfl) q319 rfl dX1_count_23 ?_
      exact z_iret F E rfl dX1_count_26 (by omega) (by omega) (⟨by rw [if_pos c_19], rfl⟩)
  · refine z_iload_n F dX1_count_4 rfl ?_
    refine z_iconst F (nI 1) dX1_count_5 rfl ?_
    refine z_icmp_neN F (by omega) (by omega) (tgt := 13) dX1_count_6 (by decide) (fun c_6 => ?_) (fun c_6 => ?_)
    · exact absurd c_6 (by omega)
    · refine z_iconstB F true dX1_count_9 rfl ?_
      refine z_goto F (tgt := 14) dX1_count_10 (by decide) ?_
      refine z_callS F (c_fnd true) 1 rfl (lw_S q433 q434 q109 q435) (by decide +kernel) ⟨Nat.le_of_ble_eq_true rfl, Nat.le_of_ble_eq_true rfl⟩ ⟨by omega, by omega⟩ [0] 22 ⟨rfl, rfl, rfl, ⟨Or.inl rfl, trivial⟩⟩ (fun h => nomatch h) (Nat.le_of_ble_eq_true rfl) ⟨⟨Or.inr (by first | exact ⟨rfl, pR_B _ (by decide)⟩ | exact ⟨rfl, uR_B (by decide) (by decide)⟩), Or.inr rfl, Or.inr trivial, Or.inr trivial, Or.inr trivial, Or.inr trivial, Or.inr trivial, Or.inr trivial, Or.inr trivial, Or.inr trivial, Or.inr trivial, Or.inr trivial, Or.inr trivial, Or.inr trivial, Or.inr trivial, Or.inr trivial, Or.inr trivial, Or.inr trivial, Or.inr trivial, Or.inr trivial, Or.inr trivial, Or.inr trivial, trivial⟩, rfl, rfl, rfl, Nat.le_of_ble_eq_true rfl⟩ rfl rfl dX1_count_14 (fun r_14 w_14 hp => ?_) (fun E_ w_ hx => by obtain ⟨-, hb, -⟩ := hx; cases hb)
      obtain ⟨rfl, -, rfl⟩ := hp
      refine z_weq (w' := [zPl _ _, zO _ [zr _ _, zr _ _, zr _ _, zr _ _, zr _ _, zi _, zi _, zr _ _, zr _ _], zH, zH, zH, zH, zH, zH, zH, zH, zH, zH, zH, zH, zH, zH, zH, zH, zH, zH, zH, zH]) rfl ?_
      refine z_seq (S' := []) rfl ?_
      refine z_iload_n F dX1_count_17 rfl ?_
      refine z_iconst F (nI 1) dX1_count_18 rfl ?_
      refine z_icmp_neN F (by omega) (by omega) (tgt := 27) dX1_count_19 (by decide) (fun c_19 => ?_) (fun c_19 => ?_)
      · refine z_iconst F (nI 0) dX1_count_27 rfl ?_
        refine z_istore_n F dX1_count_28 (Nat.le_of_ble_eq_true rfl) ?_
        refine z_leq (L' := [_, _, _, _]) rfl ?_
        refine z_iconst F (nI 0) dX1_count_29 rfl ?_
        refine z_istore_n F dX1_count_30 (Nat.le_of_ble_eq_true rfl) ?_
        refine z_leq (L' := [_, _, _, _]) rfl ?_
        exact loop (by omega) _ 0 (Nat.lt_succ_self _) (by omega)
      · refine z_aload_n F dX1_count_22 rfl ?_
        refine z_get F zC1 (f := 5) rfl (Nat.le_of_ble_eq_true rfl) q319 rfl dX1_count_23 ?_
        exact z_iret F E rfl dX1_count_26 (by omega) (by omega) (⟨by rw [if_pos c_19], rfl⟩)
theorem c_pcount_bad (P : zPt) (t : Nat) (fp : Int32) (x : Int32) (hx : ∀ i, i < 2 → x ≠ nI i) : zCtr yX1_count cX1_count 4 (some .int) 7 1 6 [zr 1 0, zi x] (xH P t fp) (fun r w => False) (fun E w => E = eNSE ∧ True ∧ w = xH P t fp) := by
  refine z_start (by decide) [some (zr 1 0), some (zi x), none, none] rfl (fun _ => Nat.le_of_ble_eq_true rfl) (fun _ => rfl) (fun X F E hno hin => ?_)
  refine z_iload_n F dX1_count_0 rfl ?_
  refine z_if_eq F (tgt := 9) dX1_count_1 (by decide) (fun c_1 => ?_) (fun c_1 => ?_)
  · exact absurd c_1 (hx 0 (by omega))
  · refine z_iload_n F dX1_count_4 rfl ?_
    refine z_iconst F (nI 1) dX1_count_5 rfl ?_
    refine z_icmp_ne F (tgt := 13) dX1_count_6 (by decide) (fun c_6 => ?_) (fun c_6 => ?_)
    · refine z_iconstB F false dX1_count_13 rfl ?_
      refine z_callS F (c_fnd false) 1 rfl (lw_S q433 q434 q109 q435) (by decide +kernel) ⟨Nat.le_of_ble_eq_true rfl, Nat.le_of_ble_eq_true rfl⟩ ⟨by omega, by omega⟩ [0] 22 ⟨rfl, rfl, rfl, ⟨Or.inl rfl, trivial⟩⟩ (fun h => nomatch h) (Nat.le_of_ble_eq_true rfl) ⟨⟨Or.inr (by first | exact ⟨rfl, pR_B _ (by decide)⟩ | exact ⟨rfl, uR_B (by decide) (by decide)⟩), Or.inr rfl, Or.inr trivial, Or.inr trivial, Or.inr trivial, Or.inr trivial, Or.inr trivial, Or.inr trivial, Or.inr trivial, Or.inr trivial, Or.inr trivial, Or.inr trivial, Or.inr trivial, Or.inr trivial, Or.inr trivial, Or.inr trivial, Or.inr trivial, Or.inr trivial, Or.inr trivial, Or.inr trivial, Or.inr trivial, Or.inr trivial, trivial⟩, rfl, rfl, rfl, Nat.le_of_ble_eq_true rfl⟩ rfl rfl dX1_count_14 (fun r_14 w_14 hp => ?_) (fun E_ w_ hx => by obtain ⟨rfl, -, rfl⟩ := hx; exact zx_out F E hno (by omega) (by omega) ⟨rfl, trivial, rfl⟩)
      exact nomatch hp.2.1
    · exact absurd c_6 (hx 1 (by omega))
theorem c_mcount_ok (F0 : Nat → Int32) (G : Nat → Int64) (A : Nat → Nat → Int32) (B : Nat → Nat → Int64) (q : Nat → Bool) (t x : Nat) (hx : x < 2) (h8 : F0 8 = nI t) (hq : ∀ s, s < 8 → (q s = false → A 1 s = nI 0) ∧ (q s = true → ∃ n, 0 < n ∧ n ≤ 24 ∧ A 1 s = nI n)) :
    zCtr yX6_count cX6_count 4 (some .int) 2 0 0 [zr 1 0, zi (nI x)] [zH, zG F0 G A B] (fun r w => r = some (zi (nI (if x = 1 then t else fb_ct q 8))) ∧ w = [zH, zG (upd F0 0 (nI 0)) G A B]) zNx := by
  refine z_start (by decide) [some (zr 1 0), some (zi (nI x)), none, none] rfl (fun _ => Nat.le_of_ble_eq_true rfl) (fun _ => rfl) (fun X F E hno hin => ?_)
  have loop : ∀ (m s : Nat), 8 - s < m → s ≤ 8 → Z X [some (zr 1 0), some (zi (nI x)), some (zi (nI (fb_ct q s))), some (zi (nI s))] [] [zH, zG (upd F0 0 (nI 0)) G A B] 0 0 33 := by
    intro m
    induction m with
    | zero => intro s hm; omega
    | succ m ih =>
      intro s hm hs
      by_cases e : s = 8
      · subst e
        refine z_iload_n F dX6_count_33 rfl ?_
        refine z_bipush F (nI 8) dX6_count_34 rfl ?_
        refine z_icmp_geN F (by omega) (by omega) (tgt := 62) dX6_count_36 (by decide) (fun c_36 => ?_) (fun c_36 => ?_)
        · refine z_iload_n F dX6_count_62 rfl ?_
          refine z_if_neN F (by omega) (tgt := 70) dX6_count_63 (by decide) (fun c_63 => ?_) (fun c_63 => ?_)
          · refine z_aload_n F dX6_count_70 rfl ?_
            refine z_mi F rfl 8 rfl (Nat.le_of_ble_eq_true rfl) rfl q1488 dX6_count_71 ?_
            refine z_ieq ((show _ = nI t from h8)) ?_
            exact z_iret F E rfl dX6_count_74 (by omega) (by omega) (⟨by rw [if_pos (by omega)], rfl⟩)
          · refine z_iload_n F dX6_count_66 rfl ?_
            refine z_goto F (tgt := 74) dX6_count_67 (by decide) ?_
            exact z_iret F E rfl dX6_count_74 (by omega) (by omega) (⟨by rw [if_neg (by omega)], rfl⟩)
        · exact absurd c_36 (by omega)
      · rcases hP : q s with _ | _
        · have hh := ih (s + 1) (by omega) (by omega)
          rw [fb_ct_succ, hP] at hh
          refine z_iload_n F dX6_count_33 rfl ?_
          refine z_bipush F (nI 8) dX6_count_34 rfl ?_
          refine z_icmp_geN F (by omega) (by omega) (tgt := 62) dX6_count_36 (by decide) (fun c_36 => ?_) (fun c_36 => ?_)
          · exact absurd c_36 (by omega)
          · refine z_iload_n F dX6_count_39 rfl ?_
            refine z_aload_n F dX6_count_40 rfl ?_
            refine z_ma F rfl 1 rfl (Nat.le_of_ble_eq_true rfl) rfl q1481 dX6_count_41 ?_
            refine z_iload_n F dX6_count_44 rfl ?_
            refine z_ialdGN F rfl rfl (Nat.le_of_ble_eq_true rfl) (by omega) rfl dX6_count_45 ?_
            refine z_ieq ((hq s (by omega)).1 hP) ?_
            refine z_if_leN F (by omega) (tgt := 53) dX6_count_46 (by decide) (fun c_46 => ?_) (fun c_46 => ?_)
            · refine z_iconst F (nI 0) dX6_count_53 rfl ?_
              refine z_iaddN F dX6_count_54 ?_
              refine z_istore_n F dX6_count_55 (Nat.le_of_ble_eq_true rfl) ?_
              refine z_leq (L' := [_, _, _, _]) rfl ?_
              refine z_iincN F 1 dX6_count_56 rfl rfl ?_
              refine z_leq (L' := [_, _, _, _]) rfl ?_
              refine z_goto F (tgt := 33) dX6_count_59 (by decide) ?_
              exact hh
            · exact absurd c_46 (by omega)
        · have hh := ih (s + 1) (by omega) (by omega)
          rw [fb_ct_succ, hP] at hh
          obtain ⟨n, n0, n24, hn⟩ := (hq s (by omega)).2 hP
          refine z_iload_n F dX6_count_33 rfl ?_
          refine z_bipush F (nI 8) dX6_count_34 rfl ?_
          refine z_icmp_geN F (by omega) (by omega) (tgt := 62) dX6_count_36 (by decide) (fun c_36 => ?_) (fun c_36 => ?_)
          · exact absurd c_36 (by omega)
          · refine z_iload_n F dX6_count_39 rfl ?_
            refine z_aload_n F dX6_count_40 rfl ?_
            refine z_ma F rfl 1 rfl (Nat.le_of_ble_eq_true rfl) rfl q1481 dX6_count_41 ?_
            refine z_iload_n F dX6_count_44 rfl ?_
            refine z_ialdGN F rfl rfl (Nat.le_of_ble_eq_true rfl) (by omega) rfl dX6_count_45 ?_
            refine z_ieq (hn) ?_
            refine z_if_leN F (by omega) (tgt := 53) dX6_count_46 (by decide) (fun c_46 => ?_) (fun c_46 => ?_)
            · exact absurd c_46 (by omega)
            · refine z_iconst F (nI 1) dX6_count_49 rfl ?_
              refine z_goto F (tgt := 54) dX6_count_50 (by decide) ?_
              refine z_iaddN F dX6_count_54 ?_
              refine z_istore_n F dX6_count_55 (Nat.le_of_ble_eq_true rfl) ?_
              refine z_leq (L' := [_, _, _, _]) rfl ?_
              refine z_iincN F 1 dX6_count_56 rfl rfl ?_
              refine z_leq (L' := [_, _, _, _]) rfl ?_
              refine z_goto F (tgt := 33) dX6_count_59 (by decide) ?_
              exact hh
  refine z_aload_n F dX6_count_0 rfl ?_
  refine z_iconst F (nI 0) dX6_count_1 rfl ?_
  refine z_pmi F rfl 0 rfl (Nat.le_of_ble_eq_true rfl) rfl q1480 rfl rfl rfl dX6_count_2 ?_
  refine z_weq (w' := [_, _]) rfl ?_
  refine z_aload_n F dX6_count_5 rfl ?_
  refine z_iload_n F dX6_count_6 rfl ?_
  refine z_if_eqN F (by omega) (tgt := 15) dX6_count_7 (by decide) (fun c_7 => ?_) (fun c_7 => ?_)
  · refine z_iconstB F true dX6_count_15 rfl ?_
    refine z_goto F (tgt := 20) dX6_count_16 (by decide) ?_
    refine z_iconst F (nI 1) dX6_count_20 rfl ?_
    refine z_callV F (c_right (upd F0 0 (nI 0)) _ _ _ true 1 rfl (by omega) (by omega)) 2 rfl (lw_V q1736 q1738 qs43 q117 q1739) (by decide +kernel) ⟨Nat.le_of_ble_eq_true rfl, Nat.le_of_ble_eq_true rfl⟩ ⟨by omega, by omega⟩ [0, 1] 2 ⟨rfl, rfl, rfl, ⟨Or.inl rfl, Or.inr rfl, trivial⟩⟩ (fun h => nomatch h) (Nat.le_of_ble_eq_true rfl) ⟨⟨Or.inr trivial, Or.inl rfl, trivial⟩, rfl, rfl, rfl, Nat.le_of_ble_eq_true rfl⟩ rfl zC6 (zat_G0 rfl) rfl dX6_count_21 (fun r_21 w_21 hp => ?_) (fun _ _ h => h.elim)
    obtain ⟨rfl, rfl⟩ := hp
    refine z_weq (w' := [zH, zG _ _ _ _]) rfl ?_
    refine z_seq (S' := zi _ :: _) rfl ?_
    refine z_if_neB F (tgt := 29) dX6_count_24 (by decide) (fun c_24 => ?_) (fun c_24 => ?_)
    · refine z_iconst F (nI 0) dX6_count_29 rfl ?_
      refine z_istore_n F dX6_count_30 (Nat.le_of_ble_eq_true rfl) ?_
      refine z_leq (L' := [_, _, _, _]) rfl ?_
      refine z_iconst F (nI 0) dX6_count_31 rfl ?_
      refine z_istore_n F dX6_count_32 (Nat.le_of_ble_eq_true rfl) ?_
      refine z_leq (L' := [_, _, _, _]) rfl ?_
      exact loop _ 0 (Nat.lt_succ_self _) (by omega)
    · cases c_24
  · refine z_iload_n F dX6_count_10 rfl ?_
    refine z_iconst F (nI 1) dX6_count_11 rfl ?_
    refine z_icmp_neN F (by omega) (by omega) (tgt := 19) dX6_count_12 (by decide) (fun c_12 => ?_) (fun c_12 => ?_)
    · exact absurd c_12 (by omega)
    · refine z_iconstB F true dX6_count_15 rfl ?_
      refine z_goto F (tgt := 20) dX6_count_16 (by decide) ?_
      refine z_iconst F (nI 1) dX6_count_20 rfl ?_
      refine z_callV F (c_right (upd F0 0 (nI 0)) _ _ _ true 1 rfl (by omega) (by omega)) 2 rfl (lw_V q1736 q1738 qs43 q117 q1739) (by decide +kernel) ⟨Nat.le_of_ble_eq_true rfl, Nat.le_of_ble_eq_true rfl⟩ ⟨by omega, by omega⟩ [0, 1] 2 ⟨rfl, rfl, rfl, ⟨Or.inl rfl, Or.inr rfl, trivial⟩⟩ (fun h => nomatch h) (Nat.le_of_ble_eq_true rfl) ⟨⟨Or.inr trivial, Or.inl rfl, trivial⟩, rfl, rfl, rfl, Nat.le_of_ble_eq_true rfl⟩ rfl zC6 (zat_G0 rfl) rfl dX6_count_21 (fun r_21 w_21 hp => ?_) (fun _ _ h => h.elim)
      obtain ⟨rfl, rfl⟩ := hp
      refine z_weq (w' := [zH, zG _ _ _ _]) rfl ?_
      refine z_seq (S' := zi _ :: _) rfl ?_
      refine z_if_neB F (tgt := 29) dX6_count_24 (by decide) (fun c_24 => ?_) (fun c_24 => ?_)
      · refine z_iconst F (nI 0) dX6_count_29 rfl ?_
        refine z_istore_n F dX6_count_30 (Nat.le_of_ble_eq_true rfl) ?_
        refine z_leq (L' := [_, _, _, _]) rfl ?_
        refine z_iconst F (nI 0) dX6_count_31 rfl ?_
        refine z_istore_n F dX6_count_32 (Nat.le_of_ble_eq_true rfl) ?_
        refine z_leq (L' := [_, _, _, _]) rfl ?_
        exact loop _ 0 (Nat.lt_succ_self _) (by omega)
      · cases c_24
theorem c_mcount_bad (F0 : Nat → Int32) (G : Nat → Int64) (A : Nat → Nat → Int32) (B : Nat → Nat → Int64) (x : Int32) (hx : ∀ i, i < 2 → x ≠ nI i) :
    zCtr yX6_count cX6_count 4 (some .int) 2 0 0 [zr 1 0, zi x] [zH, zG F0 G A B] (fun r w => r = some (zi (nI 0)) ∧ w = [zH, zG (upd F0 0 (nI 1)) G A B]) zNx := by
  refine z_start (by decide) [some (zr 1 0), some (zi x), none, none] rfl (fun _ => Nat.le_of_ble_eq_true rfl) (fun _ => rfl) (fun X F E hno hin => ?_)
  refine z_aload_n F dX6_count_0 rfl ?_
  refine z_iconst F (nI 0) dX6_count_1 rfl ?_
  refine z_pmi F rfl 0 rfl (Nat.le_of_ble_eq_true rfl) rfl q1480 rfl rfl rfl dX6_count_2 ?_
  refine z_weq (w' := [_, _]) rfl ?_
  refine z_aload_n F dX6_count_5 rfl ?_
  refine z_iload_n F dX6_count_6 rfl ?_
  refine z_if_eq F (tgt := 15) dX6_count_7 (by decide) (fun c_7 => ?_) (fun c_7 => ?_)
  · exact absurd c_7 (hx 0 (by omega))
  · refine z_iload_n F dX6_count_10 rfl ?_
    refine z_iconst F (nI 1) dX6_count_11 rfl ?_
    refine z_icmp_ne F (tgt := 19) dX6_count_12 (by decide) (fun c_12 => ?_) (fun c_12 => ?_)
    · refine z_iconstB F false dX6_count_19 rfl ?_
      refine z_iconst F (nI 1) dX6_count_20 rfl ?_
      refine z_callV F (c_right (upd F0 0 (nI 0)) _ _ _ false 1 rfl (by omega) (by omega)) 2 rfl (lw_V q1736 q1738 qs43 q117 q1739) (by decide +kernel) ⟨Nat.le_of_ble_eq_true rfl, Nat.le_of_ble_eq_true rfl⟩ ⟨by omega, by omega⟩ [0, 1] 2 ⟨rfl, rfl, rfl, ⟨Or.inl rfl, Or.inr rfl, trivial⟩⟩ (fun h => nomatch h) (Nat.le_of_ble_eq_true rfl) ⟨⟨Or.inr trivial, Or.inl rfl, trivial⟩, rfl, rfl, rfl, Nat.le_of_ble_eq_true rfl⟩ rfl zC6 (zat_G0 rfl) rfl dX6_count_21 (fun r_21 w_21 hp => ?_) (fun _ _ h => h.elim)
      obtain ⟨rfl, rfl⟩ := hp
      refine z_weq (w' := [zH, zG _ _ _ _]) rfl ?_
      refine z_seq (S' := zi _ :: _) rfl ?_
      refine z_if_neB F (tgt := 29) dX6_count_24 (by decide) (fun c_24 => ?_) (fun c_24 => ?_)
      · cases c_24
      · refine z_iconst F (nI 0) dX6_count_27 rfl ?_
        exact z_iret F E rfl dX6_count_28 (by omega) (by omega) (⟨rfl, by rw [if_neg (by decide), upd_upd]⟩)
    · exact absurd c_12 (hx 1 (by omega))
end C62
