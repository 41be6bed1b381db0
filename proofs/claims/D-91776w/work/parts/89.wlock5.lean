/-! Ways: locks, all -/
section C89
theorem frQ_0 (n : Nat) (f : Nat → Int32) : frQ n f (fun a b => bt (f a) b) (fun _ _ => 0) := fun x y _ _ => by
  show (0 : Int32) = bI (bt (f x) y && !bt (f x) y)
  cases bt (f x) y <;> rfl
theorem c_wlk_fin {n d0 : Nat} {d tr : Int32} {f : Nat → Int32} (h : nok n d0 f) {X : zX} {ret : Option FieldType} {mc ms : Nat} (F : zFix X cX13_locks yX13_locks.cls ret 7 1 mc ms 10 false) (hmc : 25 ≤ mc) (hms : 600 ≤ ms) (S : Nat → Nat → Bool) (Fr : Nat → Nat → Int32) (hF : frQ n f S Fr) (hsub : ∀ x y, S x y = true → bt (f x) y = true)
    (kk : ∀ v, (v = true ↔ ∃ x y, x < n ∧ y < n ∧ S x y = true) → Z X [some (zr 1 0), some (zr 10 0), some (zi (bI false)), some (zi (bI v)), none, none, none] [] (wLk n d tr f true Fr) 25 600 251) :
    ∀ (m a : Nat) (v : Bool), n - a < m → a ≤ n → (v = true ↔ ∃ x y, (x < a) ∧ x < n ∧ y < n ∧ S x y = true) → Z X [some (zr 1 0), some (zr 10 0), some (zi (bI false)), some (zi (bI v)), some (zi (nI a)), none, none] [] (wLk n d tr f true Fr) 25 600 171 := by
  have hn := h.n24
  intro m
  induction m with
  | zero => intro a v hm; omega
  | succ m ih =>
    intro a v hm ha hv'
    refine z_iload F dX13_locks_171 rfl ?_
    refine z_aload_n F dX13_locks_173 rfl ?_
    refine z_get F zC13 (f := 0) rfl (Nat.le_of_ble_eq_true rfl) q1317 rfl dX13_locks_174 ?_
    refine z_getN F zC5 (f := 0) rfl (Nat.le_of_ble_eq_true rfl) q239 rfl dX13_locks_177 ?_
    refine z_icmp_geN F (by omega) (by omega) (tgt := 251) dX13_locks_180 (by decide) (fun c_180 => ?_) (fun c_180 => ?_)
    · refine z_loc _ ?_ (kk v (hv'.trans ⟨fun ⟨x, y, e1, e2, e3, e4⟩ => ⟨x, y, e2, e3, e4⟩, fun ⟨x, y, e2, e3, e4⟩ => ⟨x, y, by omega, e2, e3, e4⟩⟩))
      exact ⟨rfl, rfl, rfl, rfl, trivial⟩
    · refine z_aload_n F dX13_locks_183 rfl ?_
      refine z_get F zC13 (f := 1) rfl (Nat.le_of_ble_eq_true rfl) q1318 rfl dX13_locks_184 ?_
      refine z_if_eqB F (tgt := 251) dX13_locks_187 (by decide) (fun c_187 => ?_) (fun c_187 => ?_)
      · cases c_187
      · refine z_iconst F (nI 0) dX13_locks_190 rfl ?_
        refine z_istore F dX13_locks_191 (Nat.le_of_ble_eq_true rfl) ?_
        refine z_leq (L' := [_, _, _, _, _, _, _]) rfl ?_
        have g1 : n - (a + 1) < m := by clear hv'; omega
        have g2 : a + 1 ≤ n := by clear hv'; omega
        have g3 : a < n := by clear hv'; omega
        exact c_wlk_last h F hmc hms S Fr hF hsub a g3 (fun v2 q => ih (a + 1) v2 g1 g2 q) (n + 1) 0 v (by omega) (by omega) (hv'.trans ⟨fun ⟨x, y, e1, e2, e3, e4⟩ => ⟨x, y, by omega, e2, e3, e4⟩, fun ⟨x, y, e1, e2, e3, e4⟩ => ⟨x, y, by omega, e2, e3, e4⟩⟩)
theorem c_wlocks (n d0 : Nat) (d tr : Int32) (f : Nat → Int32) (h : nok n d0 f) (Fo : Nat → Nat → Int32) (hFo : cjn n f = true → Fo = fall n f n) : zCtr yX13_locks cX13_locks 7 (some .boolean) 1 25 600 [zr 1 0] [zH, eWy 2 4 5 6 7 8 9 (bI (cjn n f)) tr, eNet 3 (nI n) d, zAi 0 24 f, zH, zH, zH, zMi 4 0 24 24 Fo, zH, zH] (fun r w => r = some (zi (bI (cjn n f && lkV n f))) ∧ w = [zH, eWy 2 4 5 6 7 8 9 (bI (cjn n f)) tr, eNet 3 (nI n) d, zAi 0 24 f, zH, zH, zH, zMi 4 0 24 24 Fo, zH, zH]) zNx := by
  refine z_start (by decide) [some (zr 1 0), none, none, none, none, none, none] rfl (fun _ => Nat.le_of_ble_eq_true rfl) (fun _ => rfl) (fun X F E hno hin => ?_)
  have hn := h.n24
  have hn1 := h.n1
  have hcc := cjn_conn h.n1 h.n24 (fun a b ha hb => h.sym ha hb)
  rcases hcj : cjn n f with _ | _
  ·
    refine z_bipush F (nI 24) dX13_locks_0 rfl ?_
    refine z_bipush F (nI 24) dX13_locks_2 rfl ?_
    refine z_multiZ F 24 24 10 q1359 q1360 q264 (nI_pos (by omega)) (zcl_n (by omega)) (nI_pos (by omega)) (zcl_n (by omega)) (⟨by omega, by omega⟩) rfl (Nat.le_of_ble_eq_true rfl) ⟨trivial, rfl, rfl, trivial, trivial, trivial, trivial, trivial, trivial, trivial, trivial⟩ rfl rfl ⟨by omega, by omega⟩ dX13_locks_4 ?_
    refine z_weq (w' := [_, _, _, _, _, _, _, _, _, _, _]) rfl ?_
    refine z_astore_n F dX13_locks_8 (Nat.le_of_ble_eq_true rfl) ?_
    refine z_leq (L' := [_, _, _, _, _, _, _]) rfl ?_
    refine z_aload_n F dX13_locks_9 rfl ?_
    refine z_get F zC13 (f := 1) rfl (Nat.le_of_ble_eq_true rfl) q1318 rfl dX13_locks_10 ?_
    refine z_istore_n F dX13_locks_13 (Nat.le_of_ble_eq_true rfl) ?_
    refine z_leq (L' := [_, _, _, _, _, _, _]) rfl ?_
    refine z_iload_n F dX13_locks_14 rfl ?_
    refine z_if_eqB F (tgt := 166) dX13_locks_15 (by decide) (fun c_15 => ?_) (fun c_15 => ?_)
    · refine z_iconstB F false dX13_locks_166 rfl ?_
      refine z_istore_n F dX13_locks_167 (Nat.le_of_ble_eq_true rfl) ?_
      refine z_leq (L' := [_, _, _, _, _, _, _]) rfl ?_
      refine z_iconst F (nI 0) dX13_locks_168 rfl ?_
      refine z_istore F dX13_locks_169 (Nat.le_of_ble_eq_true rfl) ?_
      refine z_leq (L' := [_, _, _, _, _, _, _]) rfl ?_
      refine z_iload F dX13_locks_171 rfl ?_
      refine z_aload_n F dX13_locks_173 rfl ?_
      refine z_get F zC13 (f := 0) rfl (Nat.le_of_ble_eq_true rfl) q1317 rfl dX13_locks_174 ?_
      refine z_getN F zC5 (f := 0) rfl (Nat.le_of_ble_eq_true rfl) q239 rfl dX13_locks_177 ?_
      refine z_icmp_geN F (by omega) (by omega) (tgt := 251) dX13_locks_180 (by decide) (fun c_180 => ?_) (fun c_180 => ?_)
      · exact absurd c_180 (by omega)
      · refine z_aload_n F dX13_locks_183 rfl ?_
        refine z_get F zC13 (f := 1) rfl (Nat.le_of_ble_eq_true rfl) q1318 rfl dX13_locks_184 ?_
        refine z_if_eqB F (tgt := 251) dX13_locks_187 (by decide) (fun c_187 => ?_) (fun c_187 => ?_)
        · refine z_iload_n F dX13_locks_251 rfl ?_
          refine z_take F 10 [zH, zO _ [zr _ _, zi _, zr _ _, zr _ _, zr _ _, zr _ _, zr _ _, zr _ _, zi _], zO _ [zi _, zi _, zr _ _], zAi 0 24 _, zH, zH, zH, zMi 4 0 24 24 _, zH, zH] rfl ?_
          exact z_zret F E rfl (bI_nar _) dX13_locks_252 (by omega) (by omega) (⟨by rw [hcj]; rfl, by rw [hcj]⟩)
        · cases c_187
    · cases c_15
  have hc := hcc.mp hcj
  rw [hFo hcj]
  have fin : ∀ (S : Nat → Nat → Bool) (Fr : Nat → Nat → Int32), frQ n f S Fr → (∀ x y, S x y = true → bt (f x) y = true) → (lkV n f = true ↔ ∃ x y, x < n ∧ y < n ∧ S x y = true) → Z X [some (zr 1 0), some (zr 10 0), some (zi (bI false)), none, none, none, none] [] (wLk n d tr f true Fr) 25 600 14 := by
    intro S Fr hF hsub hV
    have last : ∀ v, (v = true ↔ ∃ x y, x < n ∧ y < n ∧ S x y = true) → Z X [some (zr 1 0), some (zr 10 0), some (zi (bI false)), some (zi (bI v)), none, none, none] [] (wLk n d tr f true Fr) 25 600 251 := by
      intro v hv'
      refine z_iload_n F dX13_locks_251 rfl ?_
      refine z_take F 10 [zH, zO _ [zr _ _, zi _, zr _ _, zr _ _, zr _ _, zr _ _, zr _ _, zr _ _, zi _], zO _ [zi _, zi _, zr _ _], zAi 0 24 _, zH, zH, zH, zMi 4 0 24 24 _, zH, zH] rfl ?_
      exact z_zret F E rfl (bI_nar _) dX13_locks_252 (by omega) (by omega) (⟨by rw [hcj, show lkV n f = v from Bool.eq_iff_iff.mpr (hV.trans hv'.symm)]; rfl, by rw [hcj, hFo hcj]⟩)
    refine z_iload_n F dX13_locks_14 rfl ?_
    refine z_if_eqB F (tgt := 166) dX13_locks_15 (by decide) (fun c_15 => ?_) (fun c_15 => ?_)
    · refine z_iconstB F false dX13_locks_166 rfl ?_
      refine z_istore_n F dX13_locks_167 (Nat.le_of_ble_eq_true rfl) ?_
      refine z_leq (L' := [_, _, _, _, _, _, _]) rfl ?_
      refine z_iconst F (nI 0) dX13_locks_168 rfl ?_
      refine z_istore F dX13_locks_169 (Nat.le_of_ble_eq_true rfl) ?_
      refine z_leq (L' := [_, _, _, _, _, _, _]) rfl ?_
      exact c_wlk_fin h F (by omega) (by omega) S Fr hF hsub last (n + 1) 0 false (by omega) (by omega) ⟨fun q => (by cases q), fun ⟨x, y, e1, _⟩ => (by omega)⟩
    · cases c_15
  have lp : ∀ (m : Nat) (S : Nat → Nat → Bool) (Fr : Nat → Nat → Int32), cS n S < m → (lkl n f m S).2.2 = lkV n f → frQ n f S Fr → (∀ x y, S x y = true → bt (f x) y = true) → Z X [some (zr 1 0), some (zr 10 0), some (zi (bI true)), none, none, none, none] [] (wLk n d tr f true Fr) 25 600 14 := by
    intro m
    induction m with
    | zero => intro S Fr hm; omega
    | succ m ih =>
      intro S Fr hm hR hF hsub
      have nx : ∀ S2 ch2 an2 Fr2, lka n f (S, false, false) n = (S2, ch2, an2) → frQ n f S2 Fr2 → Z X [some (zr 1 0), some (zr 10 0), some (zi (bI ch2)), none, none, none, none] [] (wLk n d tr f true Fr2) 25 600 14 := by
        intro S2 ch2 an2 Fr2 q1 q2
        have hs2 : ∀ x y, S2 x y = true → bt (f x) y = true := fun x y q => hsub x y (lka_sub (f := f) (s := (S, false, false)) n (by rw [q1]; exact q))
        cases ch2 with
        | true =>
          have e := lk_less (n := n) (f := f) (S := S) (by rw [q1])
          rw [q1] at e
          have e3 : cS n S2 < cS n S := e
          exact ih S2 Fr2 (by omega) (by rw [← hR, lkl, q1]; rfl) q2 hs2
        | false => exact fin S2 Fr2 q2 hs2 (by rw [← (lk_any q1).2, ← hR, lkl, q1]; exact Iff.rfl)
      refine z_iload_n F dX13_locks_14 rfl ?_
      refine z_if_eqB F (tgt := 166) dX13_locks_15 (by decide) (fun c_15 => ?_) (fun c_15 => ?_)
      · cases c_15
      · refine z_iconstB F false dX13_locks_18 rfl ?_
        refine z_istore_n F dX13_locks_19 (Nat.le_of_ble_eq_true rfl) ?_
        refine z_leq (L' := [_, _, _, _, _, _, _]) rfl ?_
        refine z_iconst F (nI 0) dX13_locks_20 rfl ?_
        refine z_istore_n F dX13_locks_21 (Nat.le_of_ble_eq_true rfl) ?_
        refine z_leq (L' := [_, _, _, _, _, _, _]) rfl ?_
        exact c_wlk_rows h hc F (by omega) (by omega) (S, false, false) hsub nx (n + 1) 0 S false false Fr (by omega) (by omega) rfl hF
  have hnn : n * n ≤ 576 := Nat.mul_le_mul hn hn
  have hcS := cS_le n (fun a b => bt (f a) b)
  refine z_bipush F (nI 24) dX13_locks_0 rfl ?_
  refine z_bipush F (nI 24) dX13_locks_2 rfl ?_
  refine z_multiZ F 24 24 10 q1359 q1360 q264 (nI_pos (by omega)) (zcl_n (by omega)) (nI_pos (by omega)) (zcl_n (by omega)) (⟨by omega, by omega⟩) rfl (Nat.le_of_ble_eq_true rfl) ⟨trivial, rfl, rfl, trivial, trivial, trivial, trivial, trivial, trivial, trivial, trivial⟩ rfl rfl ⟨by omega, by omega⟩ dX13_locks_4 ?_
  refine z_weq (w' := [_, _, _, _, _, _, _, _, _, _, _]) rfl ?_
  refine z_astore_n F dX13_locks_8 (Nat.le_of_ble_eq_true rfl) ?_
  refine z_leq (L' := [_, _, _, _, _, _, _]) rfl ?_
  refine z_aload_n F dX13_locks_9 rfl ?_
  refine z_get F zC13 (f := 1) rfl (Nat.le_of_ble_eq_true rfl) q1318 rfl dX13_locks_10 ?_
  refine z_istore_n F dX13_locks_13 (Nat.le_of_ble_eq_true rfl) ?_
  refine z_leq (L' := [_, _, _, _, _, _, _]) rfl ?_
  exact lp 577 (fun a b => bt (f a) b) (fun _ _ => 0) (by omega) rfl (frQ_0 n f) (fun x y q => q)
theorem c_plocks (P : zPt) (t : Nat) (fp : Int32) (j n d : Nat) (f : Nat → Int32) (hj : j < 8) (h : nok n d f) (hP : P j = some (nI n, nI d, f)) : zCtr yX1_locks cX1_locks 2 (some .boolean) 8 139 3227 [zr 1 0, zi (nI j)] (xH P t fp) (fun r w => r = some (zi (bI (cjn n f && lkV n f))) ∧ w = xH P t fp) zNx := by
  refine z_start (by decide) [some (zr 1 0), some (zi (nI j))] rfl (fun _ => Nat.le_of_ble_eq_true rfl) (fun _ => rfl) (fun X F E hno hin => ?_)
  have h1 := h.n1
  have h24 := h.n24
  refine z_new F 22 [zn, zi 0, zn, zn, zn, zn, zn, zn, zi 0] zC13 q1296 q1297 q141 (fun _ j hj => by match j, hj with | 0, _ => rfl | 1, _ => rfl | 2, _ => rfl | 3, _ => rfl | 4, _ => rfl | 5, _ => rfl | 6, _ => rfl | 7, _ => rfl | 8, _ => rfl) rfl (Nat.le_of_ble_eq_true rfl) (Nat.le_of_ble_eq_true rfl) ⟨(by first | exact pR_N _ (Nat.le_of_ble_eq_true rfl) | exact uR_N (Nat.le_of_ble_eq_true rfl) (Nat.le_of_ble_eq_true rfl)), rfl, trivial, trivial, trivial, trivial, trivial, trivial, trivial, trivial, trivial, trivial, trivial, trivial, trivial, trivial, trivial, trivial, trivial, trivial, trivial, trivial, trivial⟩ rfl rfl ⟨by omega, by omega⟩ dX1_locks_0 ?_
  refine z_weq (w' := [_, _, _, _, _, _, _, _, _, _, _, _, _, _, _, _, _, _, _, _, _, _, _]) rfl ?_
  refine z_dup F dX1_locks_3 rfl ?_
  refine z_aload_n F dX1_locks_4 rfl ?_
  refine z_iload_n F dX1_locks_5 rfl ?_
  refine z_callV F (c_netAt_ok P t fp j hj hP) 1 rfl (lw_V q429 q431 qs0 q109 q432) (by decide +kernel) ⟨Nat.le_of_ble_eq_true rfl, Nat.le_of_ble_eq_true rfl⟩ ⟨by omega, by omega⟩ [0, 1, 2, 3, 4, 5, 6, 7, 8, 9, 10, 11, 12, 13, 14, 15, 16, 17, 18, 19, 20, 21] 23 ⟨rfl, rfl, rfl, ⟨Or.inr (congrArg some (zrnP rfl).symm), Or.inr rfl, Or.inl rfl, Or.inl rfl, Or.inl rfl, Or.inl rfl, Or.inl rfl, Or.inl rfl, Or.inl rfl, Or.inl rfl, Or.inl rfl, Or.inl rfl, Or.inl rfl, Or.inl rfl, Or.inl rfl, Or.inl rfl, Or.inl rfl, Or.inl rfl, Or.inl rfl, Or.inl rfl, Or.inl rfl, Or.inl rfl, trivial⟩⟩ (fun _ => rfl) (Nat.le_of_ble_eq_true rfl) ⟨⟨Or.inl rfl, Or.inl rfl, Or.inr trivial, Or.inr trivial, Or.inr trivial, Or.inr trivial, Or.inr trivial, Or.inr trivial, Or.inr trivial, Or.inr trivial, Or.inr trivial, Or.inr trivial, Or.inr trivial, Or.inr trivial, Or.inr trivial, Or.inr trivial, Or.inr trivial, Or.inr trivial, Or.inr trivial, Or.inr trivial, Or.inr trivial, Or.inr trivial, Or.inr rfl, trivial⟩, rfl, rfl, rfl, Nat.le_of_ble_eq_true rfl⟩ rfl zC1 rfl rfl dX1_locks_6 (fun r_6 w_6 hp => ?_) (fun _ _ h => h.elim)
  obtain ⟨rfl, rfl⟩ := hp
  refine z_weq (w' := zPl (pR _) _ :: _) (congrArg (fun z => z :: _) (zrnP rfl)) ?_
  refine z_weq (w' := [zPl _ _, zO _ [zr _ _, zr _ _, zr _ _, zr _ _, zr _ _, zi _, zi _, zr _ _, zr _ _], zH, zH, zH, zH, zH, zH, zH, zH, zH, zH, zH, zH, zH, zH, zH, zH, zH, zH, zH, zH, zO _ [zn, zi _, zn, zn, zn, zn, zn, zn, zi _]]) rfl ?_
  refine z_seq (S' := zr _ _ :: _) rfl ?_
  refine z_foc F j hj hP (N := 23) (M := 24) (L' := [_, _]) (S' := [zr 23 0, _, _]) rfl rfl (Nat.le_of_ble_eq_true rfl) ⟨rfl, trivial, trivial, trivial, trivial, trivial, trivial, trivial, trivial, trivial, trivial, trivial, trivial, trivial, trivial, trivial, trivial, trivial, trivial, trivial, trivial, rfl, trivial⟩ ⟨Or.inl rfl, Or.inl rfl, trivial⟩ rfl ⟨Or.inr ⟨rfl, rfl⟩, Or.inl rfl, Or.inl rfl, trivial⟩ rfl ?_
  refine z_weq (w' := [zPl _ _, zO _ [zr _ _, zr _ _, zr _ _, zr _ _, zr _ _, zi _, zi _, zr _ _, zr _ _], zH, zH, zH, zH, zH, zH, zH, zH, zH, zH, zH, zH, zH, zH, zH, zH, zH, zH, zH, zH, zO _ [zn, zi _, zn, zn, zn, zn, zn, zn, zi _], zO _ [zi _, zi _, zr _ _], zAi 0 24 _]) rfl ?_
  refine z_callI F (c_waysInit n d f h) 1 rfl (lw_meth q1300) q141 q1298 q1299 rfl (by decide +kernel) ⟨Nat.le_of_ble_eq_true rfl, Nat.le_of_ble_eq_true rfl⟩ ⟨by omega, by omega⟩ [0, 22, 23, 24] 25 ⟨rfl, rfl, rfl, ⟨Or.inl rfl, Or.inr rfl, Or.inr rfl, Or.inr rfl, trivial⟩⟩ (fun h => nomatch h) (Nat.le_of_ble_eq_true rfl) ⟨⟨Or.inr (by first | exact ⟨rfl, pR_B _ (by decide)⟩ | exact ⟨rfl, uR_B (by decide) (by decide)⟩), Or.inr rfl, Or.inr trivial, Or.inr trivial, Or.inr trivial, Or.inr trivial, Or.inr trivial, Or.inr trivial, Or.inr trivial, Or.inr trivial, Or.inr trivial, Or.inr trivial, Or.inr trivial, Or.inr trivial, Or.inr trivial, Or.inr trivial, Or.inr trivial, Or.inr trivial, Or.inr trivial, Or.inr trivial, Or.inr trivial, Or.inr trivial, Or.inl rfl, Or.inl rfl, Or.inl rfl, trivial⟩, rfl, rfl, rfl, Nat.le_of_ble_eq_true rfl⟩ rfl rfl dX1_locks_9 (fun r_9 w_9 hp => ?_) (fun _ _ h => h.elim)
  obtain ⟨rfl, M1, H1, L1, F1, rfl, hw1, hw2⟩ := hp
  refine z_weq (w' := [zPl _ _, zO _ [zr _ _, zr _ _, zr _ _, zr _ _, zr _ _, zi _, zi _, zr _ _, zr _ _], zH, zH, zH, zH, zH, zH, zH, zH, zH, zH, zH, zH, zH, zH, zH, zH, zH, zH, zH, zH, zO _ [zr _ _, zi _, zr _ _, zr _ _, zr _ _, zr _ _, zr _ _, zr _ _, zi _], zO _ [zi _, zi _, zr _ _], zAi 0 24 _, zMi 4 0 24 24 _, zMi 4 0 24 24 _, zMi 4 0 24 24 _, zMi 4 0 24 24 _, zAi 0 24 _, zAi 0 24 _]) rfl ?_
  refine z_seq (S' := [_]) rfl ?_
  refine z_callV F (c_wlocks n d (nI d) 0 f h F1 (fun q => (hw1 q).2.2)) 0 rfl (lw_V q1355 q1356 q1357 q141 q1358) (by decide +kernel) ⟨Nat.le_of_ble_eq_true rfl, Nat.le_of_ble_eq_true rfl⟩ ⟨by omega, by omega⟩ [0, 22, 23, 24, 25, 26, 27, 28, 29, 30] 31 ⟨rfl, rfl, rfl, ⟨Or.inl rfl, Or.inr rfl, Or.inr rfl, Or.inr rfl, Or.inl rfl, Or.inl rfl, Or.inl rfl, Or.inr rfl, Or.inl rfl, Or.inl rfl, trivial⟩⟩ (fun h => nomatch h) (Nat.le_of_ble_eq_true rfl) ⟨⟨Or.inr (by first | exact ⟨rfl, pR_B _ (by decide)⟩ | exact ⟨rfl, uR_B (by decide) (by decide)⟩), Or.inr rfl, Or.inr trivial, Or.inr trivial, Or.inr trivial, Or.inr trivial, Or.inr trivial, Or.inr trivial, Or.inr trivial, Or.inr trivial, Or.inr trivial, Or.inr trivial, Or.inr trivial, Or.inr trivial, Or.inr trivial, Or.inr trivial, Or.inr trivial, Or.inr trivial, Or.inr trivial, Or.inr trivial, Or.inr trivial, Or.inr trivial, Or.inl rfl, Or.inl rfl, Or.inl rfl, Or.inr trivial, Or.inr trivial, Or.inr trivial, Or.inl rfl, Or.inr trivial, Or.inr trivial, trivial⟩, rfl, rfl, rfl, Nat.le_of_ble_eq_true rfl⟩ rfl zC13 rfl rfl dX1_locks_12 (fun r_12 w_12 hp => ?_) (fun _ _ h => h.elim)
  obtain ⟨rfl, rfl⟩ := hp
  refine z_weq (w' := [zPl _ _, zO _ [zr _ _, zr _ _, zr _ _, zr _ _, zr _ _, zi _, zi _, zr _ _, zr _ _], zH, zH, zH, zH, zH, zH, zH, zH, zH, zH, zH, zH, zH, zH, zH, zH, zH, zH, zH, zH, zO _ [zr _ _, zi _, zr _ _, zr _ _, zr _ _, zr _ _, zr _ _, zr _ _, zi _], zO _ [zi _, zi _, zr _ _], zAi 0 24 _, zMi 4 0 24 24 _, zMi 4 0 24 24 _, zMi 4 0 24 24 _, zMi 4 0 24 24 _, zAi 0 24 _, zAi 0 24 _]) rfl ?_
  refine z_seq (S' := zi _ :: _) rfl ?_
  refine z_unfocus F rfl j 23 24 22 hj zput_self rfl rfl (Nat.le_of_ble_eq_true rfl) (Nat.le_of_ble_eq_true rfl) (Nat.le_of_ble_eq_true rfl) (Nat.le_of_ble_eq_true rfl) [zO _ [zr _ _, zr _ _, zr _ _, zr _ _, zr _ _, zi _, zi _, zr _ _, zr _ _], zH, zH, zH, zH, zH, zH, zH, zH, zH, zH, zH, zH, zH, zH, zH, zH, zH, zH, zH, zH] rfl ⟨rfl, trivial, trivial, trivial, trivial, trivial, trivial, trivial, trivial, trivial, trivial, trivial, trivial, trivial, trivial, trivial, trivial, trivial, trivial, trivial, trivial, trivial⟩ uOK rfl rfl ?_
  refine z_weq (w' := zPl (pR (zput P j (some _))) (zput P j (some _)) :: _) (congrArg (fun z => z :: _) uPl2) ?_
  exact z_zret F E rfl (bI_nar _) dX1_locks_15 (by omega) (by omega) (⟨rfl, by rw [zput_some hP]; rfl⟩)
end C89
