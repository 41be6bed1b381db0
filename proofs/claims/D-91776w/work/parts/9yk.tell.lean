/-! tell: WiredNets' operation -/
section C9yk
theorem c_rdInit (d : Int32) (n : Nat) (f : Nat → Int32) : zCtr yX14_init cX14_init 2 none 1 1 1024 [zr 1 0, zr 2 0] [zH, zO 14 [zn, zn, zn], eNet 3 (nI n) d, zAi 0 24 f] (fun r w => r = none ∧ w = [zH, zO 14 [zr 2 0, zr 4 0, zn], eNet 3 (nI n) d, zAi 0 24 f, zAi 2 1024 (fun _ => 0)]) zNx := by
  refine z_start (by decide) [some (zr 1 0), some (zr 2 0)] rfl (fun _ => Nat.le_of_ble_eq_true rfl) (fun _ => rfl) (fun X F E hno hin => ?_)
  refine z_aload_n F dX14_init_0 rfl ?_
  refine z_objInit F q1429 q149 q150 dX14_init_1 (Nat.le_of_ble_eq_true rfl) rfl (Nat.le_of_ble_eq_true rfl) ?_
  refine z_aload_n F dX14_init_4 rfl ?_
  refine z_sipush F (nI 1024) dX14_init_5 rfl ?_
  refine z_newaZ F 1024 4 q264 (nI_pos (by omega)) (zcl_n (by omega)) (by omega) rfl (Nat.le_of_ble_eq_true rfl) ⟨trivial, rfl, rfl, trivial, trivial⟩ rfl rfl ⟨by omega, by omega⟩ dX14_init_8 ?_
  refine z_weq (w' := [_, _, _, _, _]) rfl ?_
  refine z_put F zC14 (f := 1) rfl (Nat.le_of_ble_eq_true rfl) q1431 rfl (fun _ => rfl) (fun _ => rfl) (Nat.le_of_ble_eq_true rfl) dX14_init_10 ?_
  refine z_weq (w' := [_, zO _ [_, _, _], _, _, _]) rfl ?_
  refine z_aload_n F dX14_init_13 rfl ?_
  refine z_aload_n F dX14_init_14 rfl ?_
  refine z_putF F zC14 (f := 0) rfl (Nat.le_of_ble_eq_true rfl) q1430 rfl hin rfl (fun _ => rfl) (fun _ => rfl) (Nat.le_of_ble_eq_true rfl) dX14_init_15 ?_
  refine z_weq (w' := [_, zO _ [_, _, _], _, _, _]) rfl ?_
  exact z_vret F E rfl dX14_init_18 (by omega) (by omega) (⟨rfl, rfl⟩)
theorem two_lt {v n : Nat} (h : v < n) : 2 ^ v < 2 ^ n := Nat.pow_lt_pow_right (by decide) h
theorem c_rdRun (n d v : Nat) (f : Nat → Int32) (h : nok n d f) (h10 : n ≤ 10) (hv : v < n) (hc : conn n f (allB n)) : zCtr yX14_run cX14_run 4 (some .int) 12 25 25600 [zr 1 0, zi (nI v)] [zH, zO 14 [zr 2 0, zr 4 0, zn], eNet 3 (nI n) (nI d), zAi 0 24 f, zAi 2 1024 (fun _ => 0)] (fun r w => ∃ ro, ro ≤ 24 ∧ r = some (zi (nI ro)) ∧ (∀ r', r' < ro → ¬ nF n f v r' (2 ^ n - 1)) ∧ nF n f v ro (2 ^ n - 1) ∧ w = [zH, zH, eNet 3 (nI n) (nI d), zAi 0 24 f, zH]) zNx := by
  refine z_start (by decide) [some (zr 1 0), some (zi (nI v)), none, none] rfl (fun _ => Nat.le_of_ble_eq_true rfl) (fun _ => rfl) (fun X F E hno hin => ?_)
  have hp2 : 2 ^ n ≤ 2 ^ 10 := Nat.pow_le_pow_right (by decide) h10
  have h24 := h.n24
  have hp1 : 1 ≤ 2 ^ n := Nat.one_le_two_pow
  have hv2 : 2 ^ v < 2 ^ n := two_lt hv
  obtain ⟨r0, hr0, hm0⟩ := tl_ex h hc hv
  have hn0 := mN h hv hm0
  have eal : allB n = nI (2 ^ n - 1) := al_nI h24
  have hle : ∀ ro, (∀ r', r' < ro → ¬ nF n f v r' (2 ^ n - 1)) → ro ≤ 24 := fun ro hlo => Nat.le_of_not_lt fun z => hlo r0 (by omega) hn0
  have hnx : ∀ (ro : Nat) (Nw N1 : Nat → Bool), (∀ c, c < 2 ^ n → (Nw c = true ↔ nF n f v ro c)) → (∀ c, c < 2 ^ n → (N1 c = true ↔ ∃ u, u < 2 ^ n ∧ Nw u = true ∧ gP n f (nI u) n 0 (nI u) (nI c))) → ∀ c, c < 2 ^ n → (N1 c = true ↔ nF n f v (ro + 1) c) := by
    intro ro Nw N1 h1 h2 c hcl
    rw [h2 c hcl]
    constructor
    · rintro ⟨u, a, b, e⟩
      exact ⟨hcl, u, a, (h1 u a).mp b, e⟩
    · rintro ⟨-, u, a, b, e⟩
      exact ⟨u, a, (h1 u a).mpr b, e⟩
  have step : ∀ (s : Nat) (Nw N1 N2 : Nat → Bool), (∀ c, c < 2 ^ n → (N1 c = true ↔ ∃ u, u < s ∧ Nw u = true ∧ gP n f (nI u) n 0 (nI u) (nI c))) → (Nw s = true → ∀ c, c < 2 ^ n → (N2 c = true ↔ (N1 c = true ∨ gP n f (nI s) n 0 (nI s) (nI c)))) → (Nw s = false → N2 = N1) → ∀ c, c < 2 ^ n → (N2 c = true ↔ ∃ u, u < s + 1 ∧ Nw u = true ∧ gP n f (nI u) n 0 (nI u) (nI c)) := by
    intro s Nw N1 N2 h1 h2 h3 c hcl
    cases hs : Nw s with
    | false =>
      rw [h3 hs, h1 c hcl]
      constructor
      · rintro ⟨u, a, b, e⟩; exact ⟨u, by omega, b, e⟩
      · rintro ⟨u, a, b, e⟩
        by_cases q : u = s
        · rw [q, hs] at b; cases b
        · exact ⟨u, by omega, b, e⟩
    | true =>
      rw [h2 hs c hcl, h1 c hcl]
      constructor
      · rintro (⟨u, a, b, e⟩ | e)
        · exact ⟨u, by omega, b, e⟩
        · exact ⟨s, by omega, hs, e⟩
      · rintro ⟨u, a, b, e⟩
        by_cases q : u = s
        · rw [q] at e; exact Or.inr e
        · exact Or.inl ⟨u, by omega, b, e⟩
  have lp : ∀ (q ro : Nat) (Nw : Nat → Bool), 25 - ro < q → (∀ r', r' < ro → ¬ nF n f v r' (2 ^ n - 1)) → (∀ c, c < 2 ^ n → (Nw c = true ↔ nF n f v ro c)) → Z X [some (zr 1 0), some (zi (nI v)), some (zi (nI ro)), none] [] [zH, zO 14 [zr 2 0, zr 5 0, zr 5 0], eNet 3 (nI n) (nI d), zAi 0 24 f, zH, zAi 2 1024 (fun c => bI (Nw c))] ro (1024 * ro) 11 := by
    intro q
    induction q with
    | zero => intro ro Nw hq hlo; have := hle ro hlo; omega
    | succ q ih =>
      intro ro Nw hq hlo hNw
      have h25 := hle ro hlo
      have inn : ∀ (p s : Nat) (N1 : Nat → Bool), 2 ^ n - s < p → s ≤ 2 ^ n → (¬ nF n f v ro (2 ^ n - 1)) → (∀ c, c < 2 ^ n → (N1 c = true ↔ ∃ u, u < s ∧ Nw u = true ∧ gP n f (nI u) n 0 (nI u) (nI c))) → Z X [some (zr 1 0), some (zi (nI v)), some (zi (nI ro)), some (zi (nI s))] [] [zH, zO 14 [zr 2 0, zr 5 0, zr 6 0], eNet 3 (nI n) (nI d), zAi 0 24 f, zH, zAi 2 1024 (fun c => bI (Nw c)), zAi 2 1024 (fun c => bI (N1 c))] (ro + 1) (1024 * ro + 1024) 37 := by
        intro p
        induction p with
        | zero => intro s N1 hp; omega
        | succ p ih2 =>
          intro s N1 hp hs hnf hN1
          have stp := step s Nw N1
          refine z_iload_n F dX14_run_37 rfl ?_
          refine z_aload_n F dX14_run_38 rfl ?_
          refine z_get F zC14 (f := 0) rfl (Nat.le_of_ble_eq_true rfl) q1430 rfl dX14_run_39 ?_
          refine z_callV F (c_all n (nI d) h24) 0 rfl (lw_V q1444 q800 q801 q116 q802) (by decide +kernel) ⟨Nat.le_of_ble_eq_true rfl, Nat.le_of_ble_eq_true rfl⟩ ⟨by omega, by omega⟩ [0, 2, 3] 7 ⟨rfl, rfl, rfl, ⟨Or.inl rfl, Or.inr rfl, Or.inl rfl, trivial⟩⟩ (fun h => nomatch h) (Nat.le_of_ble_eq_true rfl) ⟨⟨Or.inr trivial, Or.inr rfl, Or.inl rfl, Or.inr trivial, Or.inr trivial, Or.inr trivial, Or.inr trivial, trivial⟩, rfl, rfl, rfl, Nat.le_of_ble_eq_true rfl⟩ rfl zC5 rfl rfl dX14_run_42 (fun r_42 w_42 hp => ?_) (fun _ _ h => h.elim)
          obtain ⟨rfl, rfl⟩ := hp
          refine z_ieq eal ?_
          refine z_weq (w' := [zH, zO _ [zr _ _, zr _ _, zr _ _], zO _ [zi _, zi _, zr _ _], zAi 0 24 _, zH, zAi 2 1024 _, zAi 2 1024 _]) rfl ?_
          refine z_seq (S' := zi _ :: _) rfl ?_
          refine z_icmp_gtN F (by omega) (by omega) (tgt := 70) dX14_run_45 (by decide) (fun c_45 => ?_) (fun c_45 => ?_)
          · have es : s = 2 ^ n := by omega
            subst es
            have hlt : ro + 1 ≤ 24 := hle (ro + 1) (fun r' hr => by
              by_cases e : r' = ro
              · rw [e]; exact hnf
              · exact hlo r' (by omega))
            refine z_aload_n F dX14_run_70 rfl ?_
            refine z_aload_n F dX14_run_71 rfl ?_
            refine z_get F zC14 (f := 2) rfl (Nat.le_of_ble_eq_true rfl) q1432 rfl dX14_run_72 ?_
            refine z_put F zC14 (f := 1) rfl (Nat.le_of_ble_eq_true rfl) q1431 rfl (fun _ => rfl) (fun _ => rfl) (Nat.le_of_ble_eq_true rfl) dX14_run_75 ?_
            refine z_weq (w' := [_, zO _ [_, _, _], _, _, _, _, _]) rfl ?_
            refine z_loc [some (zr 1 0), some (zi (nI v)), some (zi (nI ro)), none] ⟨rfl, rfl, rfl, trivial⟩ ?_
            refine z_iincN F 1 dX14_run_78 rfl rfl ?_
            refine z_leq (L' := [_, _, _, _]) rfl ?_
            refine z_goto F (tgt := 11) dX14_run_81 (by decide) ?_
            refine z_ren F 5 6 (w' := [zH, zO 14 [zr 2 0, zr 5 0, zr 5 0], eNet 3 (nI n) (nI d), zAi 0 24 f, zH, zAi 2 1024 (fun c => bI (N1 c))]) [some (zr 1 0), some (zi (nI v)), some (zi (nI (ro + 1))), none] [] (zAi 2 1024 (fun c => bI (Nw c))) (Nat.le_of_ble_eq_true rfl) rfl rfl rfl ⟨trivial, trivial, trivial, trivial, trivial, trivial, trivial⟩ (Nat.le_of_ble_eq_true rfl) rfl rfl ?_
            exact ih (ro + 1) N1 (by omega) (fun r' hr => by
              by_cases e : r' = ro
              · rw [e]; exact hnf
              · exact hlo r' (by omega)) (hnx ro Nw N1 hNw hN1)
          · refine z_aload_n F dX14_run_48 rfl ?_
            refine z_get F zC14 (f := 1) rfl (Nat.le_of_ble_eq_true rfl) q1431 rfl dX14_run_49 ?_
            refine z_iload_n F dX14_run_52 rfl ?_
            refine z_zaldN F rfl (Nat.le_of_ble_eq_true rfl) (by omega) rfl dX14_run_53 ?_
            refine z_if_eqB F (tgt := 64) dX14_run_54 (by decide) (fun c_54 => ?_) (fun c_54 => ?_)
            · refine z_iincN F 1 dX14_run_64 rfl rfl ?_
              refine z_leq (L' := [_, _, _, _]) rfl ?_
              refine z_goto F (tgt := 37) dX14_run_67 (by decide) ?_
              exact ih2 (s + 1) N1 (by omega) (by omega) hnf (stp N1 hN1 (fun z => by rw [c_54] at z; cases z) (fun _ => rfl))
            · refine z_aload_n F dX14_run_57 rfl ?_
              refine z_iload_n F dX14_run_58 rfl ?_
              refine z_iconst F (nI 0) dX14_run_59 rfl ?_
              refine z_iload_n F dX14_run_60 rfl ?_
              refine z_callV F (c_rgo n d f h h10 n s 0 s Nw N1 (by omega) (by omega) (by omega)) 3 rfl (lw_V q1445 q1447 qs39 q142 q1448) (by decide +kernel) ⟨by omega, Nat.le_of_ble_eq_true rfl⟩ ⟨by omega, by omega⟩ [0, 1, 2, 3, 5, 6] 7 ⟨rfl, rfl, rfl, ⟨Or.inl rfl, Or.inr rfl, Or.inr rfl, Or.inr rfl, Or.inr rfl, Or.inr rfl, trivial⟩⟩ (fun h => nomatch h) (Nat.le_of_ble_eq_true rfl) ⟨⟨Or.inr trivial, Or.inl rfl, Or.inl rfl, Or.inl rfl, Or.inr trivial, Or.inl rfl, Or.inl rfl, trivial⟩, rfl, rfl, rfl, Nat.le_of_ble_eq_true rfl⟩ rfl zC14 rfl rfl dX14_run_61 (fun r_61 w_61 hp => ?_) (fun _ _ h => h.elim)
              obtain ⟨rfl, N2, rfl, hN2⟩ := hp
              refine z_weq (w' := [zH, zO _ [zr _ _, zr _ _, zr _ _], zO _ [zi _, zi _, zr _ _], zAi 0 24 _, zH, zAi 2 1024 _, zAi 2 1024 _]) rfl ?_
              refine z_seq (S' := []) rfl ?_
              refine z_iincN F 1 dX14_run_64 rfl rfl ?_
              refine z_leq (L' := [_, _, _, _]) rfl ?_
              refine z_goto F (tgt := 37) dX14_run_67 (by decide) ?_
              exact ih2 (s + 1) N2 (by omega) (by omega) hnf (stp N2 hN1 (fun _ => hN2) (fun z => by rw [c_54] at z; cases z))
      refine z_aload_n F dX14_run_11 rfl ?_
      refine z_get F zC14 (f := 1) rfl (Nat.le_of_ble_eq_true rfl) q1431 rfl dX14_run_12 ?_
      refine z_aload_n F dX14_run_15 rfl ?_
      refine z_get F zC14 (f := 0) rfl (Nat.le_of_ble_eq_true rfl) q1430 rfl dX14_run_16 ?_
      refine z_callV F (c_all n (nI d) h24) 0 rfl (lw_V q1444 q800 q801 q116 q802) (by decide +kernel) ⟨Nat.le_of_ble_eq_true rfl, Nat.le_of_ble_eq_true rfl⟩ ⟨by omega, by omega⟩ [0, 2, 3] 6 ⟨rfl, rfl, rfl, ⟨Or.inl rfl, Or.inr rfl, Or.inl rfl, trivial⟩⟩ (fun h => nomatch h) (Nat.le_of_ble_eq_true rfl) ⟨⟨Or.inr trivial, Or.inr rfl, Or.inl rfl, Or.inr trivial, Or.inr trivial, Or.inr trivial, trivial⟩, rfl, rfl, rfl, Nat.le_of_ble_eq_true rfl⟩ rfl zC5 rfl rfl dX14_run_19 (fun r_19 w_19 hp => ?_) (fun _ _ h => h.elim)
      obtain ⟨rfl, rfl⟩ := hp
      refine z_ieq eal ?_
      refine z_weq (w' := [zH, zO _ [zr _ _, zr _ _, zr _ _], zO _ [zi _, zi _, zr _ _], zAi 0 24 _, zH, zAi 2 1024 _]) rfl ?_
      refine z_seq (S' := zi _ :: _) rfl ?_
      refine z_zaldN F rfl (Nat.le_of_ble_eq_true rfl) (by omega) rfl dX14_run_22 ?_
      refine z_if_neB F (tgt := 84) dX14_run_23 (by decide) (fun c_23 => ?_) (fun c_23 => ?_)
      · refine z_forget F 1 (w' := [zH, zH, zO _ [zi _, zi _, zr _ _], zAi 0 24 _, zH, zAi 2 1024 _]) rfl ?_
        refine z_forget F 4 (w' := [zH, zH, zO _ [zi _, zi _, zr _ _], zAi 0 24 _, zH, zAi 2 1024 _]) rfl ?_
        refine z_take F 5 [zH, zH, zO _ [zi _, zi _, zr _ _], zAi 0 24 _, zH] rfl ?_
        refine z_iload_n F dX14_run_84 rfl ?_
        exact z_iret F E rfl dX14_run_85 (by omega) (by omega) (⟨ro, h25, rfl, hlo, (hNw _ (by omega)).mp c_23, rfl⟩)
      · refine z_aload_n F dX14_run_26 rfl ?_
        refine z_sipush F (nI 1024) dX14_run_27 rfl ?_
        refine z_newaZ F 1024 6 q264 (nI_pos (by omega)) (zcl_n (by omega)) (by omega) rfl (Nat.le_of_ble_eq_true rfl) ⟨trivial, rfl, rfl, trivial, trivial, trivial, trivial⟩ rfl rfl ⟨by omega, by omega⟩ dX14_run_30 ?_
        refine z_weq (w' := [_, _, _, _, _, _, _]) rfl ?_
        refine z_put F zC14 (f := 2) rfl (Nat.le_of_ble_eq_true rfl) q1432 rfl (fun _ => rfl) (fun _ => rfl) (Nat.le_of_ble_eq_true rfl) dX14_run_32 ?_
        refine z_weq (w' := [_, zO _ [_, _, _], _, _, _, _, _]) rfl ?_
        refine z_iconst F (nI 0) dX14_run_35 rfl ?_
        refine z_istore_n F dX14_run_36 (Nat.le_of_ble_eq_true rfl) ?_
        refine z_leq (L' := [_, _, _, _]) rfl ?_
        exact inn (2 ^ n + 1) 0 (fun _ => false) (by omega) (by omega) (fun z => by rw [(hNw _ (by omega)).mpr z] at c_23; cases c_23) (fun c hcl => ⟨fun z => (by cases z), fun ⟨u, a, _⟩ => absurd a (by omega)⟩)
  have fst : ∀ (Nw : Nat → Bool), (∀ c, c < 2 ^ n → (Nw c = true ↔ nF n f v 0 c)) → Z X [some (zr 1 0), some (zi (nI v)), some (zi (nI 0)), none] [] [zH, zO 14 [zr 2 0, zr 4 0, zn], eNet 3 (nI n) (nI d), zAi 0 24 f, zAi 2 1024 (fun c => bI (Nw c))] 0 0 11 := by
    intro Nw hNw
    have inn : ∀ (p s : Nat) (N1 : Nat → Bool), 2 ^ n - s < p → s ≤ 2 ^ n → (¬ nF n f v 0 (2 ^ n - 1)) → (∀ c, c < 2 ^ n → (N1 c = true ↔ ∃ u, u < s ∧ Nw u = true ∧ gP n f (nI u) n 0 (nI u) (nI c))) → Z X [some (zr 1 0), some (zi (nI v)), some (zi (nI 0)), some (zi (nI s))] [] [zH, zO 14 [zr 2 0, zr 4 0, zr 5 0], eNet 3 (nI n) (nI d), zAi 0 24 f, zAi 2 1024 (fun c => bI (Nw c)), zAi 2 1024 (fun c => bI (N1 c))] 1 1024 37 := by
      intro p
      induction p with
      | zero => intro s N1 hp; omega
      | succ p ih2 =>
        intro s N1 hp hs hnf hN1
        have stp := step s Nw N1
        refine z_iload_n F dX14_run_37 rfl ?_
        refine z_aload_n F dX14_run_38 rfl ?_
        refine z_get F zC14 (f := 0) rfl (Nat.le_of_ble_eq_true rfl) q1430 rfl dX14_run_39 ?_
        refine z_callV F (c_all n (nI d) h24) 0 rfl (lw_V q1444 q800 q801 q116 q802) (by decide +kernel) ⟨Nat.le_of_ble_eq_true rfl, Nat.le_of_ble_eq_true rfl⟩ ⟨by omega, by omega⟩ [0, 2, 3] 6 ⟨rfl, rfl, rfl, ⟨Or.inl rfl, Or.inr rfl, Or.inl rfl, trivial⟩⟩ (fun h => nomatch h) (Nat.le_of_ble_eq_true rfl) ⟨⟨Or.inr trivial, Or.inr rfl, Or.inl rfl, Or.inr trivial, Or.inr trivial, Or.inr trivial, trivial⟩, rfl, rfl, rfl, Nat.le_of_ble_eq_true rfl⟩ rfl zC5 rfl rfl dX14_run_42 (fun r_42 w_42 hp => ?_) (fun _ _ h => h.elim)
        obtain ⟨rfl, rfl⟩ := hp
        refine z_ieq eal ?_
        refine z_weq (w' := [zH, zO _ [zr _ _, zr _ _, zr _ _], zO _ [zi _, zi _, zr _ _], zAi 0 24 _, zAi 2 1024 _, zAi 2 1024 _]) rfl ?_
        refine z_seq (S' := zi _ :: _) rfl ?_
        refine z_icmp_gtN F (by omega) (by omega) (tgt := 70) dX14_run_45 (by decide) (fun c_45 => ?_) (fun c_45 => ?_)
        · have es : s = 2 ^ n := by omega
          subst es
          refine z_aload_n F dX14_run_70 rfl ?_
          refine z_aload_n F dX14_run_71 rfl ?_
          refine z_get F zC14 (f := 2) rfl (Nat.le_of_ble_eq_true rfl) q1432 rfl dX14_run_72 ?_
          refine z_put F zC14 (f := 1) rfl (Nat.le_of_ble_eq_true rfl) q1431 rfl (fun _ => rfl) (fun _ => rfl) (Nat.le_of_ble_eq_true rfl) dX14_run_75 ?_
          refine z_weq (w' := [_, zO _ [_, _, _], _, _, _, _]) rfl ?_
          refine z_loc [some (zr 1 0), some (zi (nI v)), some (zi (nI 0)), none] ⟨rfl, rfl, rfl, trivial⟩ ?_
          refine z_iincN F 1 dX14_run_78 rfl rfl ?_
          refine z_leq (L' := [_, _, _, _]) rfl ?_
          refine z_goto F (tgt := 11) dX14_run_81 (by decide) ?_
          refine z_forget F 4 (w' := [zH, zO 14 [zr 2 0, zr 5 0, zr 5 0], eNet 3 (nI n) (nI d), zAi 0 24 f, zH, zAi 2 1024 (fun c => bI (N1 c))]) rfl ?_
          exact lp 26 1 N1 (by omega) (fun r' hr => by
            rw [show r' = 0 by omega]; exact hnf) (hnx 0 Nw N1 hNw hN1)
        · refine z_aload_n F dX14_run_48 rfl ?_
          refine z_get F zC14 (f := 1) rfl (Nat.le_of_ble_eq_true rfl) q1431 rfl dX14_run_49 ?_
          refine z_iload_n F dX14_run_52 rfl ?_
          refine z_zaldN F rfl (Nat.le_of_ble_eq_true rfl) (by omega) rfl dX14_run_53 ?_
          refine z_if_eqB F (tgt := 64) dX14_run_54 (by decide) (fun c_54 => ?_) (fun c_54 => ?_)
          · refine z_iincN F 1 dX14_run_64 rfl rfl ?_
            refine z_leq (L' := [_, _, _, _]) rfl ?_
            refine z_goto F (tgt := 37) dX14_run_67 (by decide) ?_
            exact ih2 (s + 1) N1 (by omega) (by omega) hnf (stp N1 hN1 (fun z => by rw [c_54] at z; cases z) (fun _ => rfl))
          · refine z_aload_n F dX14_run_57 rfl ?_
            refine z_iload_n F dX14_run_58 rfl ?_
            refine z_iconst F (nI 0) dX14_run_59 rfl ?_
            refine z_iload_n F dX14_run_60 rfl ?_
            refine z_callV F (c_rgo n d f h h10 n s 0 s Nw N1 (by omega) (by omega) (by omega)) 3 rfl (lw_V q1445 q1447 qs39 q142 q1448) (by decide +kernel) ⟨by omega, Nat.le_of_ble_eq_true rfl⟩ ⟨by omega, by omega⟩ [0, 1, 2, 3, 4, 5] 6 ⟨rfl, rfl, rfl, ⟨Or.inl rfl, Or.inr rfl, Or.inr rfl, Or.inr rfl, Or.inr rfl, Or.inr rfl, trivial⟩⟩ (fun h => nomatch h) (Nat.le_of_ble_eq_true rfl) ⟨⟨Or.inr trivial, Or.inl rfl, Or.inl rfl, Or.inl rfl, Or.inl rfl, Or.inl rfl, trivial⟩, rfl, rfl, rfl, Nat.le_of_ble_eq_true rfl⟩ rfl zC14 rfl rfl dX14_run_61 (fun r_61 w_61 hp => ?_) (fun _ _ h => h.elim)
            obtain ⟨rfl, N2, rfl, hN2⟩ := hp
            refine z_weq (w' := [zH, zO _ [zr _ _, zr _ _, zr _ _], zO _ [zi _, zi _, zr _ _], zAi 0 24 _, zAi 2 1024 _, zAi 2 1024 _]) rfl ?_
            refine z_seq (S' := []) rfl ?_
            refine z_iincN F 1 dX14_run_64 rfl rfl ?_
            refine z_leq (L' := [_, _, _, _]) rfl ?_
            refine z_goto F (tgt := 37) dX14_run_67 (by decide) ?_
            exact ih2 (s + 1) N2 (by omega) (by omega) hnf (stp N2 hN1 (fun _ => hN2) (fun z => by rw [c_54] at z; cases z))
    refine z_aload_n F dX14_run_11 rfl ?_
    refine z_get F zC14 (f := 1) rfl (Nat.le_of_ble_eq_true rfl) q1431 rfl dX14_run_12 ?_
    refine z_aload_n F dX14_run_15 rfl ?_
    refine z_get F zC14 (f := 0) rfl (Nat.le_of_ble_eq_true rfl) q1430 rfl dX14_run_16 ?_
    refine z_callV F (c_all n (nI d) h24) 0 rfl (lw_V q1444 q800 q801 q116 q802) (by decide +kernel) ⟨Nat.le_of_ble_eq_true rfl, Nat.le_of_ble_eq_true rfl⟩ ⟨by omega, by omega⟩ [0, 2, 3] 5 ⟨rfl, rfl, rfl, ⟨Or.inl rfl, Or.inr rfl, Or.inl rfl, trivial⟩⟩ (fun h => nomatch h) (Nat.le_of_ble_eq_true rfl) ⟨⟨Or.inr trivial, Or.inr rfl, Or.inl rfl, Or.inr trivial, Or.inr trivial, trivial⟩, rfl, rfl, rfl, Nat.le_of_ble_eq_true rfl⟩ rfl zC5 rfl rfl dX14_run_19 (fun r_19 w_19 hp => ?_) (fun _ _ h => h.elim)
    obtain ⟨rfl, rfl⟩ := hp
    refine z_ieq eal ?_
    refine z_weq (w' := [zH, zO _ [zr _ _, zr _ _, zn], zO _ [zi _, zi _, zr _ _], zAi 0 24 _, zAi 2 1024 _]) rfl ?_
    refine z_seq (S' := zi _ :: _) rfl ?_
    refine z_zaldN F rfl (Nat.le_of_ble_eq_true rfl) (by omega) rfl dX14_run_22 ?_
    refine z_if_neB F (tgt := 84) dX14_run_23 (by decide) (fun c_23 => ?_) (fun c_23 => ?_)
    · refine z_forget F 1 (w' := [zH, zH, zO _ [zi _, zi _, zr _ _], zAi 0 24 _, zAi 2 1024 _]) rfl ?_
      refine z_forget F 4 (w' := [zH, zH, zO _ [zi _, zi _, zr _ _], zAi 0 24 _, zH]) rfl ?_
      refine z_iload_n F dX14_run_84 rfl ?_
      exact z_iret F E rfl dX14_run_85 (by omega) (by omega) (⟨0, by omega, rfl, fun r' hr => absurd hr (by omega), (hNw _ (by omega)).mp c_23, rfl⟩)
    · refine z_aload_n F dX14_run_26 rfl ?_
      refine z_sipush F (nI 1024) dX14_run_27 rfl ?_
      refine z_newaZ F 1024 5 q264 (nI_pos (by omega)) (zcl_n (by omega)) (by omega) rfl (Nat.le_of_ble_eq_true rfl) ⟨trivial, rfl, rfl, trivial, trivial, trivial⟩ rfl rfl ⟨by omega, by omega⟩ dX14_run_30 ?_
      refine z_weq (w' := [_, _, _, _, _, _]) rfl ?_
      refine z_put F zC14 (f := 2) rfl (Nat.le_of_ble_eq_true rfl) q1432 rfl (fun _ => rfl) (fun _ => rfl) (Nat.le_of_ble_eq_true rfl) dX14_run_32 ?_
      refine z_weq (w' := [_, zO _ [_, _, _], _, _, _, _]) rfl ?_
      refine z_iconst F (nI 0) dX14_run_35 rfl ?_
      refine z_istore_n F dX14_run_36 (Nat.le_of_ble_eq_true rfl) ?_
      refine z_leq (L' := [_, _, _, _]) rfl ?_
      exact inn (2 ^ n + 1) 0 (fun _ => false) (by omega) (by omega) (fun z => by rw [(hNw _ (by omega)).mpr z] at c_23; cases c_23) (fun c hcl => ⟨fun z => (by cases z), fun ⟨u, a, _⟩ => absurd a (by omega)⟩)
  refine z_aload_n F dX14_run_0 rfl ?_
  refine z_get F zC14 (f := 1) rfl (Nat.le_of_ble_eq_true rfl) q1431 rfl dX14_run_1 ?_
  refine z_iconst F (nI 1) dX14_run_4 rfl ?_
  refine z_iload_n F dX14_run_5 rfl ?_
  refine z_ishlB F dX14_run_6 ?_
  refine z_ieq ((b1_nI (by omega) : b1 v = nI (2 ^ v))) ?_
  refine z_iconst F (nI 1) dX14_run_7 rfl ?_
  refine z_zastN F rfl (Nat.le_of_ble_eq_true rfl) (by omega) dX14_run_8 ?_
  refine z_weq (w' := [_, _, _, _, _]) rfl ?_
  refine z_iconst F (nI 0) dX14_run_9 rfl ?_
  refine z_istore_n F dX14_run_10 (Nat.le_of_ble_eq_true rfl) ?_
  refine z_leq (L' := [_, _, _, _]) rfl ?_
  refine z_weq (w' := [zH, zO 14 [zr 2 0, zr 4 0, zn], eNet 3 (nI n) (nI d), zAi 0 24 f, zAi 2 1024 (fun c => bI (if c = 2 ^ v then true else (fun _ => false) c))]) (by rw [← updB]; rfl) ?_
  refine fst _ (fun c hcl => ?_)
  show (if c = 2 ^ v then true else false) = true ↔ c = 2 ^ v
  by_cases e : c = 2 ^ v
  · rw [if_pos e]; exact ⟨fun _ => e, fun _ => rfl⟩
  · rw [if_neg e]; exact ⟨fun z => (by cases z), fun z => absurd z e⟩
theorem c_ptell (P : zPt) (t : Nat) (fp sn0 g0 sm0 : Int32) (D : Nat → Int32) (j n d : Nat) (f : Nat → Int32) (k : Int32) (hj : j < 8) (h : nok n d f) (hP : P j = some (nI n, nI d, f)) : zCtr yX1_tell cX1_tell 4 (some .int) 14 30 26700 [zr 1 0, zi (nI j), zi k] (xFl P t fp sn0 g0 sm0 D) (fun r w => ∃ v, v < n ∧ k = nI v ∧ ((n ≤ 10 ∧ cjn n f = true ∧ ∃ ro, ro ≤ 24 ∧ r = some (zi (nI ro)) ∧ (∀ r', r' < ro → ¬ nF n f v r' (2 ^ n - 1)) ∧ nF n f v ro (2 ^ n - 1)) ∨ (¬ (n ≤ 10 ∧ cjn n f = true) ∧ r = some (zi (-1)))) ∧ ∃ sn g sm D, w = xFl P t fp sn g sm D) (fun E w => E = eNSE ∧ knB n k = false ∧ w = xFl P t fp sn0 g0 sm0 D) := by
  refine z_start (by decide) [some (zr 1 0), some (zi (nI j)), some (zi k), none] rfl (fun _ => Nat.le_of_ble_eq_true rfl) (fun _ => rfl) (fun X F E hno hin => ?_)
  have h1 := h.n1
  have h24 := h.n24
  refine z_aload_n F dX1_tell_0 rfl ?_
  refine z_iload_n F dX1_tell_1 rfl ?_
  refine z_callV F (c_netAt_ok P t fp j hj hP) 1 rfl (lw_V q429 q431 qs0 q109 q432) (by decide +kernel) ⟨Nat.le_of_ble_eq_true rfl, Nat.le_of_ble_eq_true rfl⟩ ⟨by omega, by omega⟩ [0, 1, 2, 3, 4, 5, 6, 7, 8, 9, 10, 11, 12, 13, 14, 15, 16, 17, 18, 19, 20, 21] 22 ⟨rfl, rfl, rfl, ⟨Or.inr (congrArg some (zrnP rfl).symm), Or.inr rfl, Or.inl rfl, Or.inl rfl, Or.inl rfl, Or.inl rfl, Or.inl rfl, Or.inl rfl, Or.inl rfl, Or.inl rfl, Or.inl rfl, Or.inl rfl, Or.inl rfl, Or.inl rfl, Or.inl rfl, Or.inl rfl, Or.inl rfl, Or.inl rfl, Or.inl rfl, Or.inl rfl, Or.inl rfl, Or.inl rfl, trivial⟩⟩ (fun _ => rfl) (Nat.le_of_ble_eq_true rfl) ⟨⟨Or.inl rfl, Or.inl rfl, Or.inr trivial, Or.inr rfl, Or.inr trivial, Or.inr trivial, Or.inr trivial, Or.inr trivial, Or.inr trivial, Or.inr trivial, Or.inr trivial, Or.inr trivial, Or.inr trivial, Or.inr trivial, Or.inr trivial, Or.inr trivial, Or.inr trivial, Or.inr trivial, Or.inr trivial, Or.inr trivial, Or.inr trivial, Or.inr trivial, trivial⟩, rfl, rfl, rfl, Nat.le_of_ble_eq_true rfl⟩ rfl zC1 rfl rfl dX1_tell_2 (fun r_2 w_2 hp => ?_) (fun _ _ h => h.elim)
  obtain ⟨rfl, rfl⟩ := hp
  refine z_weq (w' := zPl (pR _) _ :: _) (congrArg (fun z => z :: _) (zrnP rfl)) ?_
  refine z_weq (w' := [zPl _ _, zO _ [zr _ _, zr _ _, zr _ _, zr _ _, zr _ _, zi _, zi _, zr _ _, zr _ _], zH, zO _ [zr _ _, zi _, zi _, zi _], zAi 0 24 _, zH, zH, zH, zH, zH, zH, zH, zH, zH, zH, zH, zH, zH, zH, zH, zH, zH]) rfl ?_
  refine z_seq (S' := zr _ _ :: _) rfl ?_
  refine z_astore_n F dX1_tell_5 (Nat.le_of_ble_eq_true rfl) ?_
  refine z_leq (L' := [_, _, _, _]) rfl ?_
  refine z_foc F j hj hP (N := 22) (M := 23) (L' := [_, _, _, some (zr 22 0)]) (S' := []) rfl rfl (Nat.le_of_ble_eq_true rfl) ⟨rfl, trivial, rfl, trivial, trivial, trivial, trivial, trivial, trivial, trivial, trivial, trivial, trivial, trivial, trivial, trivial, trivial, trivial, trivial, trivial, trivial, trivial⟩ ⟨Or.inl rfl, Or.inl rfl, Or.inl rfl, Or.inr ⟨rfl, rfl⟩, trivial⟩ rfl trivial rfl ?_
  refine z_weq (w' := [zPl _ _, zO _ [zr _ _, zr _ _, zr _ _, zr _ _, zr _ _, zi _, zi _, zr _ _, zr _ _], zH, zO _ [zr _ _, zi _, zi _, zi _], zAi 0 24 _, zH, zH, zH, zH, zH, zH, zH, zH, zH, zH, zH, zH, zH, zH, zH, zH, zH, zO _ [zi _, zi _, zr _ _], zAi 0 24 _]) rfl ?_
  refine z_aload_n F dX1_tell_6 rfl ?_
  refine z_iload_n F dX1_tell_7 rfl ?_
  refine z_callS F (c_knot n (nI d) k h1 h24) 2 rfl (lw_S q500 q501 q109 q502) (by decide +kernel) ⟨Nat.le_of_ble_eq_true rfl, Nat.le_of_ble_eq_true rfl⟩ ⟨by omega, by omega⟩ [0, 22, 23] 24 ⟨rfl, rfl, rfl, ⟨Or.inl rfl, Or.inr rfl, Or.inl rfl, trivial⟩⟩ (fun h => nomatch h) (Nat.le_of_ble_eq_true rfl) ⟨⟨Or.inr (by first | exact ⟨rfl, pR_B _ (by decide)⟩ | exact ⟨rfl, uR_B (by decide) (by decide)⟩), Or.inr rfl, Or.inr trivial, Or.inr rfl, Or.inr trivial, Or.inr trivial, Or.inr trivial, Or.inr trivial, Or.inr trivial, Or.inr trivial, Or.inr trivial, Or.inr trivial, Or.inr trivial, Or.inr trivial, Or.inr trivial, Or.inr trivial, Or.inr trivial, Or.inr trivial, Or.inr trivial, Or.inr trivial, Or.inr trivial, Or.inr trivial, Or.inl rfl, Or.inr trivial, trivial⟩, rfl, rfl, rfl, Nat.le_of_ble_eq_true rfl⟩ rfl rfl dX1_tell_8 (fun r_8 w_8 hp => ?_) (fun E_ w_ hx => by obtain ⟨rfl, hb, rfl⟩ := hx; exact zx_pub F rfl E hno j 22 23 hj hP rfl rfl (Nat.le_of_ble_eq_true rfl) (Nat.le_of_ble_eq_true rfl) (Nat.le_of_ble_eq_true rfl) _ rfl ⟨rfl, trivial, rfl, trivial, trivial, trivial, trivial, trivial, trivial, trivial, trivial, trivial, trivial, trivial, trivial, trivial, trivial, trivial, trivial, trivial, trivial, trivial⟩ (Nat.le_of_ble_eq_true rfl) (by omega) (by omega) (⟨rfl, hb, rfl⟩))
  obtain ⟨rfl, hb, rfl⟩ := hp
  obtain ⟨v, hv, rfl⟩ := knB_of h24 hb
  refine z_weq (w' := [zPl _ _, zO _ [zr _ _, zr _ _, zr _ _, zr _ _, zr _ _, zi _, zi _, zr _ _, zr _ _], zH, zO _ [zr _ _, zi _, zi _, zi _], zAi 0 24 _, zH, zH, zH, zH, zH, zH, zH, zH, zH, zH, zH, zH, zH, zH, zH, zH, zH, zO _ [zi _, zi _, zr _ _], zAi 0 24 _]) rfl ?_
  refine z_seq (S' := []) rfl ?_
  refine z_aload_n F dX1_tell_11 rfl ?_
  refine z_getN F zC5 (f := 0) rfl (Nat.le_of_ble_eq_true rfl) q245 rfl dX1_tell_12 ?_
  refine z_bipush F (nI 10) dX1_tell_15 rfl ?_
  refine z_icmp_gtN F (by omega) (by omega) (tgt := 31) dX1_tell_17 (by decide) (fun c_17 => ?_) (fun c_17 => ?_)
  · refine z_iconst F (-1) dX1_tell_31 rfl ?_
    refine z_goto F (tgt := 47) dX1_tell_32 (by decide) ?_
    refine z_loc [some _, some _, some _, none] ⟨rfl, rfl, rfl, trivial⟩ ?_
    refine z_unfocus F rfl j 22 23 22 hj zput_self rfl rfl (Nat.le_of_ble_eq_true rfl) (Nat.le_of_ble_eq_true rfl) (Nat.le_of_ble_eq_true rfl) (Nat.le_of_ble_eq_true rfl) [zO _ [zr _ _, zr _ _, zr _ _, zr _ _, zr _ _, zi _, zi _, zr _ _, zr _ _], zH, zO _ [zr _ _, zi _, zi _, zi _], zAi 0 24 _, zH, zH, zH, zH, zH, zH, zH, zH, zH, zH, zH, zH, zH, zH, zH, zH, zH] rfl ⟨rfl, trivial, rfl, trivial, trivial, trivial, trivial, trivial, trivial, trivial, trivial, trivial, trivial, trivial, trivial, trivial, trivial, trivial, trivial, trivial, trivial, trivial⟩ uOK rfl rfl ?_
    refine z_weq (w' := zPl (pR (zput P j (some _))) (zput P j (some _)) :: _) (congrArg (fun z => z :: _) uPl2) ?_
    exact z_iret F E rfl dX1_tell_47 (by omega) (by omega) (⟨v, hv, rfl, Or.inr ⟨fun z => absurd z.1 (by omega), rfl⟩, sn0, g0, sm0, D, by rw [zput_some hP]; rfl⟩)
  · refine z_aload_n F dX1_tell_20 rfl ?_
    refine z_get F zC1 (f := 2) rfl (Nat.le_of_ble_eq_true rfl) q316 rfl dX1_tell_21 ?_
    refine z_aload_n F dX1_tell_24 rfl ?_
    refine z_callV F (c_cjn n (nI d) f _ _ _ _ h24 h1) 1 rfl (lw_V q818 q819 q820 q110 q821) (by decide +kernel) ⟨Nat.le_of_ble_eq_true rfl, Nat.le_of_ble_eq_true rfl⟩ ⟨by omega, by omega⟩ [0, 3, 4, 22, 23] 24 ⟨rfl, rfl, rfl, ⟨Or.inl rfl, Or.inr rfl, Or.inr rfl, Or.inr rfl, Or.inr rfl, trivial⟩⟩ (fun h => nomatch h) (Nat.le_of_ble_eq_true rfl) ⟨⟨Or.inr (by first | exact ⟨rfl, pR_B _ (by decide)⟩ | exact ⟨rfl, uR_B (by decide) (by decide)⟩), Or.inr rfl, Or.inr trivial, Or.inl rfl, Or.inl rfl, Or.inr trivial, Or.inr trivial, Or.inr trivial, Or.inr trivial, Or.inr trivial, Or.inr trivial, Or.inr trivial, Or.inr trivial, Or.inr trivial, Or.inr trivial, Or.inr trivial, Or.inr trivial, Or.inr trivial, Or.inr trivial, Or.inr trivial, Or.inr trivial, Or.inr trivial, Or.inl rfl, Or.inl rfl, trivial⟩, rfl, rfl, rfl, Nat.le_of_ble_eq_true rfl⟩ rfl zC2 rfl rfl dX1_tell_25 (fun r_25 w_25 hp => ?_) (fun _ _ h => h.elim)
    obtain ⟨rfl, sn1, g1, sm1, D1, rfl⟩ := hp
    refine z_weq (w' := [zPl _ _, zO _ [zr _ _, zr _ _, zr _ _, zr _ _, zr _ _, zi _, zi _, zr _ _, zr _ _], zH, zO _ [zr _ _, zi _, zi _, zi _], zAi 0 24 _, zH, zH, zH, zH, zH, zH, zH, zH, zH, zH, zH, zH, zH, zH, zH, zH, zH, zO _ [zi _, zi _, zr _ _], zAi 0 24 _]) rfl ?_
    refine z_seq (S' := zi _ :: _) rfl ?_
    refine z_if_neB F (tgt := 35) dX1_tell_28 (by decide) (fun c_28 => ?_) (fun c_28 => ?_)
    · refine z_new F 24 [zn, zn, zn] zC14 q1424 q1425 q142 (fun _ j hj => by match j, hj with | 0, _ => rfl | 1, _ => rfl | 2, _ => rfl) rfl (Nat.le_of_ble_eq_true rfl) (Nat.le_of_ble_eq_true rfl) ⟨(by first | exact pR_N _ (Nat.le_of_ble_eq_true rfl) | exact uR_N (Nat.le_of_ble_eq_true rfl) (Nat.le_of_ble_eq_true rfl)), rfl, trivial, rfl, trivial, trivial, trivial, trivial, trivial, trivial, trivial, trivial, trivial, trivial, trivial, trivial, trivial, trivial, trivial, trivial, trivial, trivial, rfl, trivial, trivial⟩ rfl rfl ⟨by omega, by omega⟩ dX1_tell_35 ?_
      refine z_weq (w' := [_, _, _, _, _, _, _, _, _, _, _, _, _, _, _, _, _, _, _, _, _, _, _, _, _]) rfl ?_
      refine z_dup F dX1_tell_38 rfl ?_
      refine z_aload_n F dX1_tell_39 rfl ?_
      refine z_callI F (c_rdInit (nI d) n f) 1 rfl (lw_meth q1428) q142 q1426 q1427 rfl (by decide +kernel) ⟨Nat.le_of_ble_eq_true rfl, Nat.le_of_ble_eq_true rfl⟩ ⟨by omega, by omega⟩ [0, 24, 22, 23] 25 ⟨rfl, rfl, rfl, ⟨Or.inl rfl, Or.inr rfl, Or.inr rfl, Or.inr rfl, trivial⟩⟩ (fun h => nomatch h) (Nat.le_of_ble_eq_true rfl) ⟨⟨Or.inr (by first | exact ⟨rfl, pR_B _ (by decide)⟩ | exact ⟨rfl, uR_B (by decide) (by decide)⟩), Or.inr rfl, Or.inr trivial, Or.inr rfl, Or.inr trivial, Or.inr trivial, Or.inr trivial, Or.inr trivial, Or.inr trivial, Or.inr trivial, Or.inr trivial, Or.inr trivial, Or.inr trivial, Or.inr trivial, Or.inr trivial, Or.inr trivial, Or.inr trivial, Or.inr trivial, Or.inr trivial, Or.inr trivial, Or.inr trivial, Or.inr trivial, Or.inl rfl, Or.inl rfl, Or.inl rfl, trivial⟩, rfl, rfl, rfl, Nat.le_of_ble_eq_true rfl⟩ rfl rfl dX1_tell_40 (fun r_40 w_40 hp => ?_) (fun _ _ h => h.elim)
      obtain ⟨rfl, rfl⟩ := hp
      refine z_weq (w' := [zPl _ _, zO _ [zr _ _, zr _ _, zr _ _, zr _ _, zr _ _, zi _, zi _, zr _ _, zr _ _], zH, zO _ [zr _ _, zi _, zi _, zi _], zAi 0 24 _, zH, zH, zH, zH, zH, zH, zH, zH, zH, zH, zH, zH, zH, zH, zH, zH, zH, zO _ [zi _, zi _, zr _ _], zAi 0 24 _, zO _ [zr _ _, zr _ _, zn], zAi 2 1024 _]) rfl ?_
      refine z_seq (S' := [_]) rfl ?_
      refine z_iload_n F dX1_tell_43 rfl ?_
      refine z_callV F (c_rdRun n d v f h (by omega) hv ((cjn_conn h1 h24 (fun a b ha hb => h.sym ha hb)).mp c_28)) 1 rfl (lw_V q1440 q1441 q1442 q142 q1443) (by decide +kernel) ⟨Nat.le_of_ble_eq_true rfl, Nat.le_of_ble_eq_true rfl⟩ ⟨by omega, by omega⟩ [0, 24, 22, 23, 25] 26 ⟨rfl, rfl, rfl, ⟨Or.inl rfl, Or.inr rfl, Or.inr rfl, Or.inr rfl, Or.inr rfl, trivial⟩⟩ (fun h => nomatch h) (Nat.le_of_ble_eq_true rfl) ⟨⟨Or.inr (by first | exact ⟨rfl, pR_B _ (by decide)⟩ | exact ⟨rfl, uR_B (by decide) (by decide)⟩), Or.inr rfl, Or.inr trivial, Or.inr rfl, Or.inr trivial, Or.inr trivial, Or.inr trivial, Or.inr trivial, Or.inr trivial, Or.inr trivial, Or.inr trivial, Or.inr trivial, Or.inr trivial, Or.inr trivial, Or.inr trivial, Or.inr trivial, Or.inr trivial, Or.inr trivial, Or.inr trivial, Or.inr trivial, Or.inr trivial, Or.inr trivial, Or.inl rfl, Or.inl rfl, Or.inl rfl, Or.inl rfl, trivial⟩, rfl, rfl, rfl, Nat.le_of_ble_eq_true rfl⟩ rfl zC14 rfl rfl dX1_tell_44 (fun r_44 w_44 hp => ?_) (fun _ _ h => h.elim)
      obtain ⟨ro, k1, rfl, k2, k3, rfl⟩ := hp
      refine z_weq (w' := [zPl _ _, zO _ [zr _ _, zr _ _, zr _ _, zr _ _, zr _ _, zi _, zi _, zr _ _, zr _ _], zH, zO _ [zr _ _, zi _, zi _, zi _], zAi 0 24 _, zH, zH, zH, zH, zH, zH, zH, zH, zH, zH, zH, zH, zH, zH, zH, zH, zH, zO _ [zi _, zi _, zr _ _], zAi 0 24 _, zH, zH]) rfl ?_
      refine z_seq (S' := zi _ :: _) rfl ?_
      refine z_loc [some _, some _, some _, none] ⟨rfl, rfl, rfl, trivial⟩ ?_
      refine z_unfocus F rfl j 22 23 22 hj zput_self rfl rfl (Nat.le_of_ble_eq_true rfl) (Nat.le_of_ble_eq_true rfl) (Nat.le_of_ble_eq_true rfl) (Nat.le_of_ble_eq_true rfl) [zO _ [zr _ _, zr _ _, zr _ _, zr _ _, zr _ _, zi _, zi _, zr _ _, zr _ _], zH, zO _ [zr _ _, zi _, zi _, zi _], zAi 0 24 _, zH, zH, zH, zH, zH, zH, zH, zH, zH, zH, zH, zH, zH, zH, zH, zH, zH] rfl ⟨rfl, trivial, rfl, trivial, trivial, trivial, trivial, trivial, trivial, trivial, trivial, trivial, trivial, trivial, trivial, trivial, trivial, trivial, trivial, trivial, trivial, trivial⟩ uOK rfl rfl ?_
      refine z_weq (w' := zPl (pR (zput P j (some _))) (zput P j (some _)) :: _) (congrArg (fun z => z :: _) uPl2) ?_
      exact z_iret F E rfl dX1_tell_47 (by omega) (by omega) (⟨v, hv, rfl, Or.inl ⟨by omega, c_28, ro, k1, rfl, k2, k3⟩, sn1, g1, sm1, D1, by rw [zput_some hP]; rfl⟩)
    · refine z_iconst F (-1) dX1_tell_31 rfl ?_
      refine z_goto F (tgt := 47) dX1_tell_32 (by decide) ?_
      refine z_loc [some _, some _, some _, none] ⟨rfl, rfl, rfl, trivial⟩ ?_
      refine z_unfocus F rfl j 22 23 22 hj zput_self rfl rfl (Nat.le_of_ble_eq_true rfl) (Nat.le_of_ble_eq_true rfl) (Nat.le_of_ble_eq_true rfl) (Nat.le_of_ble_eq_true rfl) [zO _ [zr _ _, zr _ _, zr _ _, zr _ _, zr _ _, zi _, zi _, zr _ _, zr _ _], zH, zO _ [zr _ _, zi _, zi _, zi _], zAi 0 24 _, zH, zH, zH, zH, zH, zH, zH, zH, zH, zH, zH, zH, zH, zH, zH, zH, zH] rfl ⟨rfl, trivial, rfl, trivial, trivial, trivial, trivial, trivial, trivial, trivial, trivial, trivial, trivial, trivial, trivial, trivial, trivial, trivial, trivial, trivial, trivial, trivial⟩ uOK rfl rfl ?_
      refine z_weq (w' := zPl (pR (zput P j (some _))) (zput P j (some _)) :: _) (congrArg (fun z => z :: _) uPl2) ?_
      exact z_iret F E rfl dX1_tell_47 (by omega) (by omega) (⟨v, hv, rfl, Or.inr ⟨fun z => (by rw [c_28] at z; cases z.2), rfl⟩, sn1, g1, sm1, D1, by rw [zput_some hP]; rfl⟩)
end C9yk
