/-! Ways: locks, the passes -/
section C86
theorem frQ_up {n a b : Nat} {f : Nat → Int32} {S Fr : Nat → Nat → _} {v : Bool} (h : frQ n f S Fr) (hb : bt (f a) b = true) : frQ n f (zup2 S a b v) (zup2 Fr a b (vp_nar .boolean (bI (!v)))) := fun x y hx hy => by
  rw [zup2_pq, zup2_pq]
  by_cases q : x = a ∧ y = b
  · rw [if_pos q, if_pos q, nar_bI, q.1, q.2, hb, Bool.true_and]
  · rw [if_neg q, if_neg q]; exact h x y hx hy
theorem c_wlk_cell {n d0 : Nat} {d tr : Int32} {f : Nat → Int32} {jo : Bool} (h : nok n d0 f) (hc : conn n f (allB n)) {X : zX} {ret : Option FieldType} {mc ms : Nat} (F : zFix X cX13_locks yX13_locks.cls ret 7 1 mc ms 10 false) (hmc : 25 ≤ mc) (hms : 600 ≤ ms) (S : Nat → Nat → Bool) (Fr : Nat → Nat → Int32) (hF : frQ n f S Fr) (hsub : ∀ x y, S x y = true → bt (f x) y = true) (a b : Nat) (ch an : Bool) (ha : a < n) (hb : b < n)
    (kk : ∀ S2 ch2 an2 Fr2, lkc n f a b (S, ch, an) = (S2, ch2, an2) → frQ n f S2 Fr2 → Z X [some (zr 1 0), some (zr 10 0), some (zi (bI ch2)), some (zi (nI a)), some (zi (nI b)), none, none] [] (wLk n d tr f jo Fr2) 25 600 151) : Z X [some (zr 1 0), some (zr 10 0), some (zi (bI ch)), some (zi (nI a)), some (zi (nI b)), none, none] [] (wLk n d tr f jo Fr) 25 600 48 := by
  have hn := h.n24
  have stay : S a b = false → Z X [some (zr 1 0), some (zr 10 0), some (zi (bI ch)), some (zi (nI a)), some (zi (nI b)), none, none] [] (wLk n d tr f jo Fr) 25 600 151 := fun q => kk S ch an Fr (if_neg (show ¬ S a b = true by rw [q]; simp)) hF
  have done_ : S a b = true → bt (f a) b = true → ∀ v2, v2 = (ch || !ldz n f S a b) → Z X [some (zr 1 0), some (zr 10 0), some (zi (bI v2)), some (zi (nI a)), some (zi (nI b)), none, none] [] (wLk n d tr f jo (zup2 Fr a b (vp_nar .boolean (bI (!ldz n f S a b))))) 25 600 151 := fun q1 q2 v2 q3 => kk _ v2 (an || ldz n f S a b) _ (by subst q3; exact if_pos q1) (frQ_up hF q2)
  have after : S a b = true → bt (f a) b = true → Z X [some (zr 1 0), some (zr 10 0), some (zi (bI ch)), some (zi (nI a)), some (zi (nI b)), some (zi (bI (!ldz n f S a b))), none] [] (wLk n d tr f jo Fr) 25 600 128 := by
    intro q1 q2
    refine z_aload_n F dX13_locks_128 rfl ?_
    refine z_iload_n F dX13_locks_129 rfl ?_
    refine z_aaldMN F rfl (Or.inr (Or.inr rfl)) (Nat.le_of_ble_eq_true rfl) (by omega) dX13_locks_130 ?_
    refine z_iload F dX13_locks_131 rfl ?_
    refine z_iload F dX13_locks_133 rfl ?_
    refine z_zastMN F rfl (by omega) (Nat.le_of_ble_eq_true rfl) (by omega) dX13_locks_135 ?_
    refine z_weq (w' := [_, _, _, _, _, _, _, _, _, _, _]) rfl ?_
    refine z_iload_n F dX13_locks_136 rfl ?_
    refine z_if_neB F (tgt := 145) dX13_locks_137 (by decide) (fun c_137 => ?_) (fun c_137 => ?_)
    · refine z_iconstB F true dX13_locks_145 rfl ?_
      refine z_goto F (tgt := 150) dX13_locks_146 (by decide) ?_
      refine z_istore_n F dX13_locks_150 (Nat.le_of_ble_eq_true rfl) ?_
      refine z_leq (L' := [_, _, _, _, _, _, _]) rfl ?_
      first
        | (refine z_loc _ ?_ (done_ q1 q2 true (by first | (rw [c_137] <;> rfl) | (rw [c_137, c_142] <;> rfl))); exact ⟨rfl, rfl, rfl, rfl, rfl, trivial⟩)
        | (refine z_loc _ ?_ (done_ q1 q2 false (by rw [c_137, c_142] <;> rfl)); exact ⟨rfl, rfl, rfl, rfl, rfl, trivial⟩)
    · refine z_iload F dX13_locks_140 rfl ?_
      refine z_if_eqB F (tgt := 149) dX13_locks_142 (by decide) (fun c_142 => ?_) (fun c_142 => ?_)
      · refine z_iconstB F false dX13_locks_149 rfl ?_
        refine z_istore_n F dX13_locks_150 (Nat.le_of_ble_eq_true rfl) ?_
        refine z_leq (L' := [_, _, _, _, _, _, _]) rfl ?_
        first
          | (refine z_loc _ ?_ (done_ q1 q2 true (by first | (rw [c_137] <;> rfl) | (rw [c_137, c_142] <;> rfl))); exact ⟨rfl, rfl, rfl, rfl, rfl, trivial⟩)
          | (refine z_loc _ ?_ (done_ q1 q2 false (by rw [c_137, c_142] <;> rfl)); exact ⟨rfl, rfl, rfl, rfl, rfl, trivial⟩)
      · refine z_iconstB F true dX13_locks_145 rfl ?_
        refine z_goto F (tgt := 150) dX13_locks_146 (by decide) ?_
        refine z_istore_n F dX13_locks_150 (Nat.le_of_ble_eq_true rfl) ?_
        refine z_leq (L' := [_, _, _, _, _, _, _]) rfl ?_
        first
          | (refine z_loc _ ?_ (done_ q1 q2 true (by first | (rw [c_137] <;> rfl) | (rw [c_137, c_142] <;> rfl))); exact ⟨rfl, rfl, rfl, rfl, rfl, trivial⟩)
          | (refine z_loc _ ?_ (done_ q1 q2 false (by rw [c_137, c_142] <;> rfl)); exact ⟨rfl, rfl, rfl, rfl, rfl, trivial⟩)
  refine z_aload_n F dX13_locks_48 rfl ?_
  refine z_get F zC13 (f := 0) rfl (Nat.le_of_ble_eq_true rfl) q1317 rfl dX13_locks_49 ?_
  refine z_iload_n F dX13_locks_52 rfl ?_
  refine z_iload F dX13_locks_53 rfl ?_
  refine z_callV F (c_has (nI n) d f a b (by omega) (by omega)) 2 rfl (lw_V q1312 q508 q509 q116 q510) (by decide +kernel) ⟨Nat.le_of_ble_eq_true rfl, Nat.le_of_ble_eq_true rfl⟩ ⟨by omega, by omega⟩ [0, 2, 3] 11 ⟨rfl, rfl, rfl, ⟨Or.inl rfl, Or.inr rfl, Or.inr rfl, trivial⟩⟩ (fun h => nomatch h) (Nat.le_of_ble_eq_true rfl) ⟨⟨Or.inr trivial, Or.inr rfl, Or.inl rfl, Or.inl rfl, Or.inr trivial, Or.inr trivial, Or.inr trivial, Or.inr trivial, Or.inr trivial, Or.inr trivial, Or.inr trivial, trivial⟩, rfl, rfl, rfl, Nat.le_of_ble_eq_true rfl⟩ rfl zC5 rfl rfl dX13_locks_55 (fun r_55 w_55 hp => ?_) (fun _ _ h => h.elim)
  obtain ⟨rfl, rfl⟩ := hp
  refine z_weq (w' := [zH, zO _ [zr _ _, zi _, zr _ _, zr _ _, zr _ _, zr _ _, zr _ _, zr _ _, zi _], zO _ [zi _, zi _, zr _ _], zAi 0 24 _, zH, zH, zH, zMi 4 0 24 24 _, zH, zH, zMi 6 2 24 24 _]) rfl ?_
  refine z_seq (S' := zi _ :: _) rfl ?_
  refine z_if_eqB F (tgt := 151) dX13_locks_58 (by decide) (fun c_58 => ?_) (fun c_58 => ?_)
  · exact stay (by
      cases q : S a b with
      | false => rfl
      | true => rw [hsub a b q] at c_58; cases c_58)
  · refine z_aload_n F dX13_locks_61 rfl ?_
    refine z_iload_n F dX13_locks_62 rfl ?_
    refine z_aaldMN F rfl (Or.inr (Or.inr rfl)) (Nat.le_of_ble_eq_true rfl) (by omega) dX13_locks_63 ?_
    refine z_iload F dX13_locks_64 rfl ?_
    refine z_zaldMN F rfl (by omega) (Nat.le_of_ble_eq_true rfl) (by omega) rfl dX13_locks_66 ?_
    refine z_ieq (hF a b ha hb) ?_
    refine z_if_eqB F (tgt := 73) dX13_locks_67 (by decide) (fun c_67 => ?_) (fun c_67 => ?_)
    · refine z_iconstB F true dX13_locks_73 rfl ?_
      refine z_istore F dX13_locks_74 (Nat.le_of_ble_eq_true rfl) ?_
      refine z_leq (L' := [_, _, _, _, _, _, _]) rfl ?_
      refine z_iconst F (nI 0) dX13_locks_76 rfl ?_
      refine z_istore F dX13_locks_77 (Nat.le_of_ble_eq_true rfl) ?_
      refine z_leq (L' := [_, _, _, _, _, _, _]) rfl ?_
      exact c_wlk_ok h hc F S Fr hF hsub a b ch ha hb (after (by rw [c_58, Bool.true_and] at c_67; simpa using c_67) c_58) (n + 1) 0 (by omega) (by omega)
    · refine z_goto F (tgt := 151) dX13_locks_70 (by decide) ?_
      exact stay (by
        rw [c_58, Bool.true_and] at c_67
        simpa using c_67)
end C86
