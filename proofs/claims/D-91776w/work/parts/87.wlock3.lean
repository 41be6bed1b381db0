/-! Ways: locks, the loops -/
section C87
theorem c_wlk_row {n d0 : Nat} {d tr : Int32} {f : Nat → Int32} {jo : Bool} (h : nok n d0 f) (hc : conn n f (allB n)) {X : zX} {ret : Option FieldType} {mc ms : Nat} (F : zFix X cX13_locks yX13_locks.cls ret 7 1 mc ms 10 false) (hmc : 25 ≤ mc) (hms : 600 ≤ ms) (s0 : LK) (hsub : ∀ x y, s0.1 x y = true → bt (f x) y = true) (a : Nat) (ha : a < n)
    (kk : ∀ S2 ch2 an2 Fr2, lkr n f a s0 n = (S2, ch2, an2) → frQ n f S2 Fr2 → Z X [some (zr 1 0), some (zr 10 0), some (zi (bI ch2)), some (zi (nI (a + 1))), none, none, none] [] (wLk n d tr f jo Fr2) 25 600 22) :
    ∀ (m b : Nat) (S : Nat → Nat → Bool) (ch an : Bool) (Fr : Nat → Nat → Int32), n - b < m → b ≤ n → lkr n f a s0 b = (S, ch, an) → frQ n f S Fr → Z X [some (zr 1 0), some (zr 10 0), some (zi (bI ch)), some (zi (nI a)), some (zi (nI b)), none, none] [] (wLk n d tr f jo Fr) 25 600 36 := by
  have hn := h.n24
  intro m
  induction m with
  | zero => intro b S ch an Fr hm; omega
  | succ m ih =>
    intro b S ch an Fr hm hb hs1 hF
    have hsb : ∀ x y, S x y = true → bt (f x) y = true := fun x y q => hsub x y (lkr_sub b (by rw [hs1]; exact q))
    have back : ∀ S2 ch2 an2 Fr2, b < n → lkr n f a s0 (b + 1) = (S2, ch2, an2) → frQ n f S2 Fr2 → Z X [some (zr 1 0), some (zr 10 0), some (zi (bI ch2)), some (zi (nI a)), some (zi (nI b)), none, none] [] (wLk n d tr f jo Fr2) 25 600 151 := by
      intro S2 ch2 an2 Fr2 hbn q1 q2
      refine z_iincN F 1 dX13_locks_151 rfl rfl ?_
      refine z_leq (L' := [_, _, _, _, _, _, _]) rfl ?_
      refine z_goto F (tgt := 36) dX13_locks_154 (by decide) ?_
      exact ih (b + 1) S2 ch2 an2 Fr2 (by omega) (by omega) q1 q2
    refine z_iload F dX13_locks_36 rfl ?_
    refine z_aload_n F dX13_locks_38 rfl ?_
    refine z_get F zC13 (f := 0) rfl (Nat.le_of_ble_eq_true rfl) q1317 rfl dX13_locks_39 ?_
    refine z_getN F zC5 (f := 0) rfl (Nat.le_of_ble_eq_true rfl) q239 rfl dX13_locks_42 ?_
    refine z_icmp_geN F (by omega) (by omega) (tgt := 157) dX13_locks_45 (by decide) (fun c_45 => ?_) (fun c_45 => ?_)
    · refine z_iincN F 1 dX13_locks_157 rfl rfl ?_
      refine z_leq (L' := [_, _, _, _, _, _, _]) rfl ?_
      refine z_goto F (tgt := 22) dX13_locks_160 (by decide) ?_
      rw [show b = n by omega] at hs1
      refine z_loc _ ?_ (kk S ch an Fr hs1 hF)
      exact ⟨rfl, rfl, rfl, rfl, trivial⟩
    · exact c_wlk_cell h hc F hmc hms S Fr hF hsb a b ch an ha (by omega) (fun S2 ch2 an2 Fr2 q1 q2 => back S2 ch2 an2 Fr2 (by omega) (by rw [lkr, hs1]; exact q1) q2)
theorem c_wlk_rows {n d0 : Nat} {d tr : Int32} {f : Nat → Int32} {jo : Bool} (h : nok n d0 f) (hc : conn n f (allB n)) {X : zX} {ret : Option FieldType} {mc ms : Nat} (F : zFix X cX13_locks yX13_locks.cls ret 7 1 mc ms 10 false) (hmc : 25 ≤ mc) (hms : 600 ≤ ms) (s0 : LK) (hsub : ∀ x y, s0.1 x y = true → bt (f x) y = true)
    (kk : ∀ S2 ch2 an2 Fr2, lka n f s0 n = (S2, ch2, an2) → frQ n f S2 Fr2 → Z X [some (zr 1 0), some (zr 10 0), some (zi (bI ch2)), none, none, none, none] [] (wLk n d tr f jo Fr2) 25 600 14) :
    ∀ (m a : Nat) (S : Nat → Nat → Bool) (ch an : Bool) (Fr : Nat → Nat → Int32), n - a < m → a ≤ n → lka n f s0 a = (S, ch, an) → frQ n f S Fr → Z X [some (zr 1 0), some (zr 10 0), some (zi (bI ch)), some (zi (nI a)), none, none, none] [] (wLk n d tr f jo Fr) 25 600 22 := by
  have hn := h.n24
  intro m
  induction m with
  | zero => intro a S ch an Fr hm; omega
  | succ m ih =>
    intro a S ch an Fr hm ha hs1 hF
    refine z_iload_n F dX13_locks_22 rfl ?_
    refine z_aload_n F dX13_locks_23 rfl ?_
    refine z_get F zC13 (f := 0) rfl (Nat.le_of_ble_eq_true rfl) q1317 rfl dX13_locks_24 ?_
    refine z_getN F zC5 (f := 0) rfl (Nat.le_of_ble_eq_true rfl) q239 rfl dX13_locks_27 ?_
    refine z_icmp_geN F (by omega) (by omega) (tgt := 163) dX13_locks_30 (by decide) (fun c_30 => ?_) (fun c_30 => ?_)
    · refine z_goto F (tgt := 14) dX13_locks_163 (by decide) ?_
      rw [show a = n by omega] at hs1
      refine z_loc _ ?_ (kk S ch an Fr hs1 hF)
      exact ⟨rfl, rfl, rfl, trivial⟩
    · refine z_iconst F (nI 0) dX13_locks_33 rfl ?_
      refine z_istore F dX13_locks_34 (Nat.le_of_ble_eq_true rfl) ?_
      refine z_leq (L' := [_, _, _, _, _, _, _]) rfl ?_
      exact c_wlk_row h hc F hmc hms (S, ch, an) (fun x y q => hsub x y (lka_sub a (by rw [hs1]; exact q))) a (by omega) (fun S2 ch2 an2 Fr2 q1 q2 => ih (a + 1) S2 ch2 an2 Fr2 (by omega) (by omega) (by rw [lka, hs1]; exact q1) q2) (n + 1) 0 S ch an Fr (by omega) (by omega) rfl hF
end C87
