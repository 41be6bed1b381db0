/-! locks: the reference -/
section C82
theorem nar_bI (b : Bool) : vp_nar .boolean (bI b) = bI b := by cases b <;> rfl
def mBq (n : Nat) (T : Nat → Int32) (S : Nat → Nat → Bool) : Prop := ∀ x y, x < n → y < n → T (24 * x + y) = bI (S x y)
theorem mBq_up {n : Nat} {A : Nat → Nat → Int32} {r i j : Nat} {S : Nat → Nat → Bool} {v : Bool} (h : mBq n (A r) S) (hn : n ≤ 24) (hj : j < n) : mBq n (zup2 A r (24 * i + j) (vp_nar .boolean (bI v)) r) (zup2 S i j v) := fun u w hu hw => by
  rw [zup2_row]
  show (if 24 * u + w = 24 * i + j then _ else A r (24 * u + w)) = _
  unfold zup2
  by_cases q : u = i
  · subst q
    rw [if_pos rfl]
    by_cases q2 : w = j
    · subst q2; rw [if_pos rfl, if_pos rfl, nar_bI]
    · rw [if_neg q2, if_neg (by omega)]; exact h u w hu hw
  · rw [if_neg q, if_neg (by omega)]; exact h u w hu hw
def lkV (n : Nat) (f : Nat → Int32) : Bool := (lkl n f 577 (fun a b => bt (f a) b)).2.2
theorem c_mlocks_ok (F0 : Nat → Int32) (G : Nat → Int64) (A : Nat → Nat → Int32) (B : Nat → Nat → Int64) (j n d : Nat) (f : Nat → Int32) (hj : j < 8) (h : nok n d f) (hs : Slt A j n (nI d) f) :
    zCtr yX6_locks cX6_locks 7 (some .boolean) 3 0 0 [zr 1 0, zi (nI j)] [zH, zG F0 G A B] (fun r w => r = some (zi (bI (cjn n f && lkV n f))) ∧ ∃ F' A', w = [zH, zG F' G A' B] ∧ F' 0 = nI 0 ∧ frm [0, 4, 5] F0 F' ∧ frm [6, 23, 65, 66] A A') zNx := by
  refine z_start (by decide) [some (zr 1 0), some (zi (nI j)), none, none, none, none, none] rfl (fun _ => Nat.le_of_ble_eq_true rfl) (fun _ => rfl) (fun X F E hno hin => ?_)
  have hn1 := h.n1
  have hn := h.n24
  have hcc := cjn_conn h.n1 h.n24 (fun a b ha hb => h.sym ha hb)
  have main : ∀ (F1 : Nat → Int32) (A2 : Nat → Nat → Int32), F1 0 = nI 0 → frm [0, 4, 5] F0 F1 → frm [6, 23, 65] A A2 → F1 4 = nI n → (∀ k, k < n → A2 6 k = f k) → (∀ a k, a < n → k < n → A2 65 (24 * a + k) = hpI n f a k) → cjn n f = true → Z X [some (zr 1 0), some (zi (nI j)), some (zi (nI 0)), none, none, none, none] [] [zH, zG F1 G A2 B] 0 0 21 := by
    intro F1 A2 f0 f1 f2 hF hf hH hcj
    have hc := hcc.mp hcj
    have cell : ∀ (a b : Nat) (S1 : Nat → Nat → Bool) (ch an : Bool) (A1 : Nat → Nat → Int32), a < n → b < n → frm [66] A2 A1 → mBq n (A1 66) S1 → (∀ S2 ch2 an2 A3, lkc n f a b (S1, ch, an) = (S2, ch2, an2) → frm [66] A2 A3 → mBq n (A3 66) S2 → Z X [some (zr 1 0), some (zi (nI j)), some (zi (bI ch2)), some (zi (bI an2)), some (zi (nI a)), some (zi (nI b)), none] [] [zH, zG F1 G A3 B] 0 0 178) →
        Z X [some (zr 1 0), some (zi (nI j)), some (zi (bI ch)), some (zi (bI an)), some (zi (nI a)), some (zi (nI b)), none] [] [zH, zG F1 G A1 B] 0 0 104 := by
      intro a b S1 ch an A1 ha hb hA hS kk
      have next : ∀ v2 v3, S1 a b = true → v2 = (ch || !ldz n f S1 a b) → v3 = (an || ldz n f S1 a b) → Z X [some (zr 1 0), some (zi (nI j)), some (zi (bI v2)), some (zi (bI v3)), some (zi (nI a)), some (zi (nI b)), none] [] [zH, zG F1 G (zup2 A1 66 (24 * a + b) (vp_nar .boolean (bI (ldz n f S1 a b)))) B] 0 0 178 := fun v2 v3 q1 q2 q3 => kk _ v2 v3 _ (by show (if S1 a b = true then _ else _) = _; rw [if_pos q1, q2, q3]) (frm_zup hA (by decide)) (mBq_up hS hn hb)
      refine z_aload_n F dX6_locks_104 rfl ?_
      refine z_ma F rfl 66 rfl (Nat.le_of_ble_eq_true rfl) rfl q1546 dX6_locks_105 ?_
      refine z_bipush F (nI 24) dX6_locks_108 rfl ?_
      refine z_iload F dX6_locks_110 rfl ?_
      refine z_imulN F dX6_locks_112 ?_
      refine z_iload F dX6_locks_113 rfl ?_
      refine z_iaddN F dX6_locks_115 ?_
      refine z_zaldGN F rfl rfl (Nat.le_of_ble_eq_true rfl) (by omega) rfl dX6_locks_116 ?_
      refine z_ieq (hS a b ha hb) ?_
      refine z_if_neB F (tgt := 123) dX6_locks_117 (by decide) (fun c_117 => ?_) (fun c_117 => ?_)
      · refine z_aload_n F dX6_locks_123 rfl ?_
        refine z_iload F dX6_locks_124 rfl ?_
        refine z_iload F dX6_locks_126 rfl ?_
        refine z_callV F (c_mleads F1 _ A1 _ n d f S1 a b h hc hF ha hb (fun x y hx hy => by rw [hA.at 65 rfl]; exact hH x y hx hy) hS) 2 rfl (lw_V q2091 q2093 qs96 q117 q2094) (by decide +kernel) ⟨Nat.le_of_ble_eq_true rfl, Nat.le_of_ble_eq_true rfl⟩ ⟨by omega, by omega⟩ [0, 1] 2 ⟨rfl, rfl, rfl, ⟨Or.inl rfl, Or.inr rfl, trivial⟩⟩ (fun h => nomatch h) (Nat.le_of_ble_eq_true rfl) ⟨⟨Or.inr trivial, Or.inl rfl, trivial⟩, rfl, rfl, rfl, Nat.le_of_ble_eq_true rfl⟩ rfl zC6 (zat_G0 rfl) rfl dX6_locks_128 (fun r_128 w_128 hp => ?_) (fun _ _ h => h.elim)
        obtain ⟨rfl, rfl⟩ := hp
        refine z_weq (w' := [zH, zG _ _ _ _]) rfl ?_
        refine z_seq (S' := zi _ :: _) rfl ?_
        refine z_istore F dX6_locks_131 (Nat.le_of_ble_eq_true rfl) ?_
        refine z_leq (L' := [_, _, _, _, _, _, _]) rfl ?_
        refine z_aload_n F dX6_locks_133 rfl ?_
        refine z_ma F rfl 66 rfl (Nat.le_of_ble_eq_true rfl) rfl q1546 dX6_locks_134 ?_
        refine z_bipush F (nI 24) dX6_locks_137 rfl ?_
        refine z_iload F dX6_locks_139 rfl ?_
        refine z_imulN F dX6_locks_141 ?_
        refine z_iload F dX6_locks_142 rfl ?_
        refine z_iaddN F dX6_locks_144 ?_
        refine z_iload F dX6_locks_145 rfl ?_
        refine z_zastGN F rfl rfl (Nat.le_of_ble_eq_true rfl) (by omega) dX6_locks_147 ?_
        refine z_weq (w' := [_, _]) rfl ?_
        refine z_iload_n F dX6_locks_148 rfl ?_
        refine z_if_neB F (tgt := 157) dX6_locks_149 (by decide) (fun c_149 => ?_) (fun c_149 => ?_)
        · refine z_iconstB F true dX6_locks_157 rfl ?_
          refine z_goto F (tgt := 162) dX6_locks_158 (by decide) ?_
          refine z_istore_n F dX6_locks_162 (Nat.le_of_ble_eq_true rfl) ?_
          refine z_leq (L' := [_, _, _, _, _, _, _]) rfl ?_
          refine z_iload_n F dX6_locks_163 rfl ?_
          refine z_if_neB F (tgt := 172) dX6_locks_164 (by decide) (fun c_164 => ?_) (fun c_164 => ?_)
          · refine z_iconstB F true dX6_locks_172 rfl ?_
            refine z_goto F (tgt := 177) dX6_locks_173 (by decide) ?_
            refine z_istore_n F dX6_locks_177 (Nat.le_of_ble_eq_true rfl) ?_
            refine z_leq (L' := [_, _, _, _, _, _, _]) rfl ?_
            first
              | (refine z_loc _ ?_ (next true true c_117 (by first | (rw [c_164, c_169] <;> rfl) | (rw [c_164] <;> rfl)) (by first | (rw [c_149, c_154] <;> rfl) | (rw [c_149] <;> rfl))); exact ⟨rfl, rfl, rfl, rfl, rfl, rfl, trivial⟩)
              | (refine z_loc _ ?_ (next true false c_117 (by first | (rw [c_164, c_169] <;> rfl) | (rw [c_164] <;> rfl)) (by first | (rw [c_149, c_154] <;> rfl) | (rw [c_149] <;> rfl))); exact ⟨rfl, rfl, rfl, rfl, rfl, rfl, trivial⟩)
              | (refine z_loc _ ?_ (next false true c_117 (by first | (rw [c_164, c_169] <;> rfl) | (rw [c_164] <;> rfl)) (by first | (rw [c_149, c_154] <;> rfl) | (rw [c_149] <;> rfl))); exact ⟨rfl, rfl, rfl, rfl, rfl, rfl, trivial⟩)
              | (refine z_loc _ ?_ (next false false c_117 (by first | (rw [c_164, c_169] <;> rfl) | (rw [c_164] <;> rfl)) (by first | (rw [c_149, c_154] <;> rfl) | (rw [c_149] <;> rfl))); exact ⟨rfl, rfl, rfl, rfl, rfl, rfl, trivial⟩)
          · refine z_iload F dX6_locks_167 rfl ?_
            refine z_if_neB F (tgt := 176) dX6_locks_169 (by decide) (fun c_169 => ?_) (fun c_169 => ?_)
            · refine z_iconstB F false dX6_locks_176 rfl ?_
              refine z_istore_n F dX6_locks_177 (Nat.le_of_ble_eq_true rfl) ?_
              refine z_leq (L' := [_, _, _, _, _, _, _]) rfl ?_
              first
                | (refine z_loc _ ?_ (next true true c_117 (by first | (rw [c_164, c_169] <;> rfl) | (rw [c_164] <;> rfl)) (by first | (rw [c_149, c_154] <;> rfl) | (rw [c_149] <;> rfl))); exact ⟨rfl, rfl, rfl, rfl, rfl, rfl, trivial⟩)
                | (refine z_loc _ ?_ (next true false c_117 (by first | (rw [c_164, c_169] <;> rfl) | (rw [c_164] <;> rfl)) (by first | (rw [c_149, c_154] <;> rfl) | (rw [c_149] <;> rfl))); exact ⟨rfl, rfl, rfl, rfl, rfl, rfl, trivial⟩)
                | (refine z_loc _ ?_ (next false true c_117 (by first | (rw [c_164, c_169] <;> rfl) | (rw [c_164] <;> rfl)) (by first | (rw [c_149, c_154] <;> rfl) | (rw [c_149] <;> rfl))); exact ⟨rfl, rfl, rfl, rfl, rfl, rfl, trivial⟩)
                | (refine z_loc _ ?_ (next false false c_117 (by first | (rw [c_164, c_169] <;> rfl) | (rw [c_164] <;> rfl)) (by first | (rw [c_149, c_154] <;> rfl) | (rw [c_149] <;> rfl))); exact ⟨rfl, rfl, rfl, rfl, rfl, rfl, trivial⟩)
            · refine z_iconstB F true dX6_locks_172 rfl ?_
              refine z_goto F (tgt := 177) dX6_locks_173 (by decide) ?_
              refine z_istore_n F dX6_locks_177 (Nat.le_of_ble_eq_true rfl) ?_
              refine z_leq (L' := [_, _, _, _, _, _, _]) rfl ?_
              first
                | (refine z_loc _ ?_ (next true true c_117 (by first | (rw [c_164, c_169] <;> rfl) | (rw [c_164] <;> rfl)) (by first | (rw [c_149, c_154] <;> rfl) | (rw [c_149] <;> rfl))); exact ⟨rfl, rfl, rfl, rfl, rfl, rfl, trivial⟩)
                | (refine z_loc _ ?_ (next true false c_117 (by first | (rw [c_164, c_169] <;> rfl) | (rw [c_164] <;> rfl)) (by first | (rw [c_149, c_154] <;> rfl) | (rw [c_149] <;> rfl))); exact ⟨rfl, rfl, rfl, rfl, rfl, rfl, trivial⟩)
                | (refine z_loc _ ?_ (next false true c_117 (by first | (rw [c_164, c_169] <;> rfl) | (rw [c_164] <;> rfl)) (by first | (rw [c_149, c_154] <;> rfl) | (rw [c_149] <;> rfl))); exact ⟨rfl, rfl, rfl, rfl, rfl, rfl, trivial⟩)
                | (refine z_loc _ ?_ (next false false c_117 (by first | (rw [c_164, c_169] <;> rfl) | (rw [c_164] <;> rfl)) (by first | (rw [c_149, c_154] <;> rfl) | (rw [c_149] <;> rfl))); exact ⟨rfl, rfl, rfl, rfl, rfl, rfl, trivial⟩)
        · refine z_iload F dX6_locks_152 rfl ?_
          refine z_if_eqB F (tgt := 161) dX6_locks_154 (by decide) (fun c_154 => ?_) (fun c_154 => ?_)
          · refine z_iconstB F false dX6_locks_161 rfl ?_
            refine z_istore_n F dX6_locks_162 (Nat.le_of_ble_eq_true rfl) ?_
            refine z_leq (L' := [_, _, _, _, _, _, _]) rfl ?_
            refine z_iload_n F dX6_locks_163 rfl ?_
            refine z_if_neB F (tgt := 172) dX6_locks_164 (by decide) (fun c_164 => ?_) (fun c_164 => ?_)
            · refine z_iconstB F true dX6_locks_172 rfl ?_
              refine z_goto F (tgt := 177) dX6_locks_173 (by decide) ?_
              refine z_istore_n F dX6_locks_177 (Nat.le_of_ble_eq_true rfl) ?_
              refine z_leq (L' := [_, _, _, _, _, _, _]) rfl ?_
              first
                | (refine z_loc _ ?_ (next true true c_117 (by first | (rw [c_164, c_169] <;> rfl) | (rw [c_164] <;> rfl)) (by first | (rw [c_149, c_154] <;> rfl) | (rw [c_149] <;> rfl))); exact ⟨rfl, rfl, rfl, rfl, rfl, rfl, trivial⟩)
                | (refine z_loc _ ?_ (next true false c_117 (by first | (rw [c_164, c_169] <;> rfl) | (rw [c_164] <;> rfl)) (by first | (rw [c_149, c_154] <;> rfl) | (rw [c_149] <;> rfl))); exact ⟨rfl, rfl, rfl, rfl, rfl, rfl, trivial⟩)
                | (refine z_loc _ ?_ (next false true c_117 (by first | (rw [c_164, c_169] <;> rfl) | (rw [c_164] <;> rfl)) (by first | (rw [c_149, c_154] <;> rfl) | (rw [c_149] <;> rfl))); exact ⟨rfl, rfl, rfl, rfl, rfl, rfl, trivial⟩)
                | (refine z_loc _ ?_ (next false false c_117 (by first | (rw [c_164, c_169] <;> rfl) | (rw [c_164] <;> rfl)) (by first | (rw [c_149, c_154] <;> rfl) | (rw [c_149] <;> rfl))); exact ⟨rfl, rfl, rfl, rfl, rfl, rfl, trivial⟩)
            · refine z_iload F dX6_locks_167 rfl ?_
              refine z_if_neB F (tgt := 176) dX6_locks_169 (by decide) (fun c_169 => ?_) (fun c_169 => ?_)
              · refine z_iconstB F false dX6_locks_176 rfl ?_
                refine z_istore_n F dX6_locks_177 (Nat.le_of_ble_eq_true rfl) ?_
                refine z_leq (L' := [_, _, _, _, _, _, _]) rfl ?_
                first
                  | (refine z_loc _ ?_ (next true true c_117 (by first | (rw [c_164, c_169] <;> rfl) | (rw [c_164] <;> rfl)) (by first | (rw [c_149, c_154] <;> rfl) | (rw [c_149] <;> rfl))); exact ⟨rfl, rfl, rfl, rfl, rfl, rfl, trivial⟩)
                  | (refine z_loc _ ?_ (next true false c_117 (by first | (rw [c_164, c_169] <;> rfl) | (rw [c_164] <;> rfl)) (by first | (rw [c_149, c_154] <;> rfl) | (rw [c_149] <;> rfl))); exact ⟨rfl, rfl, rfl, rfl, rfl, rfl, trivial⟩)
                  | (refine z_loc _ ?_ (next false true c_117 (by first | (rw [c_164, c_169] <;> rfl) | (rw [c_164] <;> rfl)) (by first | (rw [c_149, c_154] <;> rfl) | (rw [c_149] <;> rfl))); exact ⟨rfl, rfl, rfl, rfl, rfl, rfl, trivial⟩)
                  | (refine z_loc _ ?_ (next false false c_117 (by first | (rw [c_164, c_169] <;> rfl) | (rw [c_164] <;> rfl)) (by first | (rw [c_149, c_154] <;> rfl) | (rw [c_149] <;> rfl))); exact ⟨rfl, rfl, rfl, rfl, rfl, rfl, trivial⟩)
              · refine z_iconstB F true dX6_locks_172 rfl ?_
                refine z_goto F (tgt := 177) dX6_locks_173 (by decide) ?_
                refine z_istore_n F dX6_locks_177 (Nat.le_of_ble_eq_true rfl) ?_
                refine z_leq (L' := [_, _, _, _, _, _, _]) rfl ?_
                first
                  | (refine z_loc _ ?_ (next true true c_117 (by first | (rw [c_164, c_169] <;> rfl) | (rw [c_164] <;> rfl)) (by first | (rw [c_149, c_154] <;> rfl) | (rw [c_149] <;> rfl))); exact ⟨rfl, rfl, rfl, rfl, rfl, rfl, trivial⟩)
                  | (refine z_loc _ ?_ (next true false c_117 (by first | (rw [c_164, c_169] <;> rfl) | (rw [c_164] <;> rfl)) (by first | (rw [c_149, c_154] <;> rfl) | (rw [c_149] <;> rfl))); exact ⟨rfl, rfl, rfl, rfl, rfl, rfl, trivial⟩)
                  | (refine z_loc _ ?_ (next false true c_117 (by first | (rw [c_164, c_169] <;> rfl) | (rw [c_164] <;> rfl)) (by first | (rw [c_149, c_154] <;> rfl) | (rw [c_149] <;> rfl))); exact ⟨rfl, rfl, rfl, rfl, rfl, rfl, trivial⟩)
                  | (refine z_loc _ ?_ (next false false c_117 (by first | (rw [c_164, c_169] <;> rfl) | (rw [c_164] <;> rfl)) (by first | (rw [c_149, c_154] <;> rfl) | (rw [c_149] <;> rfl))); exact ⟨rfl, rfl, rfl, rfl, rfl, rfl, trivial⟩)
          · refine z_iconstB F true dX6_locks_157 rfl ?_
            refine z_goto F (tgt := 162) dX6_locks_158 (by decide) ?_
            refine z_istore_n F dX6_locks_162 (Nat.le_of_ble_eq_true rfl) ?_
            refine z_leq (L' := [_, _, _, _, _, _, _]) rfl ?_
            refine z_iload_n F dX6_locks_163 rfl ?_
            refine z_if_neB F (tgt := 172) dX6_locks_164 (by decide) (fun c_164 => ?_) (fun c_164 => ?_)
            · refine z_iconstB F true dX6_locks_172 rfl ?_
              refine z_goto F (tgt := 177) dX6_locks_173 (by decide) ?_
              refine z_istore_n F dX6_locks_177 (Nat.le_of_ble_eq_true rfl) ?_
              refine z_leq (L' := [_, _, _, _, _, _, _]) rfl ?_
              first
                | (refine z_loc _ ?_ (next true true c_117 (by first | (rw [c_164, c_169] <;> rfl) | (rw [c_164] <;> rfl)) (by first | (rw [c_149, c_154] <;> rfl) | (rw [c_149] <;> rfl))); exact ⟨rfl, rfl, rfl, rfl, rfl, rfl, trivial⟩)
                | (refine z_loc _ ?_ (next true false c_117 (by first | (rw [c_164, c_169] <;> rfl) | (rw [c_164] <;> rfl)) (by first | (rw [c_149, c_154] <;> rfl) | (rw [c_149] <;> rfl))); exact ⟨rfl, rfl, rfl, rfl, rfl, rfl, trivial⟩)
                | (refine z_loc _ ?_ (next false true c_117 (by first | (rw [c_164, c_169] <;> rfl) | (rw [c_164] <;> rfl)) (by first | (rw [c_149, c_154] <;> rfl) | (rw [c_149] <;> rfl))); exact ⟨rfl, rfl, rfl, rfl, rfl, rfl, trivial⟩)
                | (refine z_loc _ ?_ (next false false c_117 (by first | (rw [c_164, c_169] <;> rfl) | (rw [c_164] <;> rfl)) (by first | (rw [c_149, c_154] <;> rfl) | (rw [c_149] <;> rfl))); exact ⟨rfl, rfl, rfl, rfl, rfl, rfl, trivial⟩)
            · refine z_iload F dX6_locks_167 rfl ?_
              refine z_if_neB F (tgt := 176) dX6_locks_169 (by decide) (fun c_169 => ?_) (fun c_169 => ?_)
              · refine z_iconstB F false dX6_locks_176 rfl ?_
                refine z_istore_n F dX6_locks_177 (Nat.le_of_ble_eq_true rfl) ?_
                refine z_leq (L' := [_, _, _, _, _, _, _]) rfl ?_
                first
                  | (refine z_loc _ ?_ (next true true c_117 (by first | (rw [c_164, c_169] <;> rfl) | (rw [c_164] <;> rfl)) (by first | (rw [c_149, c_154] <;> rfl) | (rw [c_149] <;> rfl))); exact ⟨rfl, rfl, rfl, rfl, rfl, rfl, trivial⟩)
                  | (refine z_loc _ ?_ (next true false c_117 (by first | (rw [c_164, c_169] <;> rfl) | (rw [c_164] <;> rfl)) (by first | (rw [c_149, c_154] <;> rfl) | (rw [c_149] <;> rfl))); exact ⟨rfl, rfl, rfl, rfl, rfl, rfl, trivial⟩)
                  | (refine z_loc _ ?_ (next false true c_117 (by first | (rw [c_164, c_169] <;> rfl) | (rw [c_164] <;> rfl)) (by first | (rw [c_149, c_154] <;> rfl) | (rw [c_149] <;> rfl))); exact ⟨rfl, rfl, rfl, rfl, rfl, rfl, trivial⟩)
                  | (refine z_loc _ ?_ (next false false c_117 (by first | (rw [c_164, c_169] <;> rfl) | (rw [c_164] <;> rfl)) (by first | (rw [c_149, c_154] <;> rfl) | (rw [c_149] <;> rfl))); exact ⟨rfl, rfl, rfl, rfl, rfl, rfl, trivial⟩)
              · refine z_iconstB F true dX6_locks_172 rfl ?_
                refine z_goto F (tgt := 177) dX6_locks_173 (by decide) ?_
                refine z_istore_n F dX6_locks_177 (Nat.le_of_ble_eq_true rfl) ?_
                refine z_leq (L' := [_, _, _, _, _, _, _]) rfl ?_
                first
                  | (refine z_loc _ ?_ (next true true c_117 (by first | (rw [c_164, c_169] <;> rfl) | (rw [c_164] <;> rfl)) (by first | (rw [c_149, c_154] <;> rfl) | (rw [c_149] <;> rfl))); exact ⟨rfl, rfl, rfl, rfl, rfl, rfl, trivial⟩)
                  | (refine z_loc _ ?_ (next true false c_117 (by first | (rw [c_164, c_169] <;> rfl) | (rw [c_164] <;> rfl)) (by first | (rw [c_149, c_154] <;> rfl) | (rw [c_149] <;> rfl))); exact ⟨rfl, rfl, rfl, rfl, rfl, rfl, trivial⟩)
                  | (refine z_loc _ ?_ (next false true c_117 (by first | (rw [c_164, c_169] <;> rfl) | (rw [c_164] <;> rfl)) (by first | (rw [c_149, c_154] <;> rfl) | (rw [c_149] <;> rfl))); exact ⟨rfl, rfl, rfl, rfl, rfl, rfl, trivial⟩)
                  | (refine z_loc _ ?_ (next false false c_117 (by first | (rw [c_164, c_169] <;> rfl) | (rw [c_164] <;> rfl)) (by first | (rw [c_149, c_154] <;> rfl) | (rw [c_149] <;> rfl))); exact ⟨rfl, rfl, rfl, rfl, rfl, rfl, trivial⟩)
      · refine z_goto F (tgt := 178) dX6_locks_120 (by decide) ?_
        exact kk S1 ch an A1 (if_neg (show ¬ S1 a b = true by rw [c_117]; simp)) hA hS
    have row : ∀ (a : Nat) (s0 : LK), a < n → (∀ S2 ch2 an2 A3, lkr n f a s0 n = (S2, ch2, an2) → frm [66] A2 A3 → mBq n (A3 66) S2 → Z X [some (zr 1 0), some (zi (nI j)), some (zi (bI ch2)), some (zi (bI an2)), some (zi (nI (a + 1))), none, none] [] [zH, zG F1 G A3 B] 0 0 83) →
        ∀ (m b : Nat) (S1 : Nat → Nat → Bool) (ch an : Bool) (A1 : Nat → Nat → Int32), n - b < m → b ≤ n → lkr n f a s0 b = (S1, ch, an) → frm [66] A2 A1 → mBq n (A1 66) S1 → Z X [some (zr 1 0), some (zi (nI j)), some (zi (bI ch)), some (zi (bI an)), some (zi (nI a)), some (zi (nI b)), none] [] [zH, zG F1 G A1 B] 0 0 95 := by
      intro a s0 ha kk m
      induction m with
      | zero => intro b S1 ch an A1 hm; omega
      | succ m ih =>
        intro b S1 ch an A1 hm hb hs1 hA hS
        have back : ∀ S2 ch2 an2 A3, b < n → lkr n f a s0 (b + 1) = (S2, ch2, an2) → frm [66] A2 A3 → mBq n (A3 66) S2 → Z X [some (zr 1 0), some (zi (nI j)), some (zi (bI ch2)), some (zi (bI an2)), some (zi (nI a)), some (zi (nI b)), none] [] [zH, zG F1 G A3 B] 0 0 178 := by
          intro S2 ch2 an2 A3 hbn q1 q2 q3
          refine z_iincN F 1 dX6_locks_178 rfl rfl ?_
          refine z_leq (L' := [_, _, _, _, _, _, _]) rfl ?_
          refine z_goto F (tgt := 95) dX6_locks_181 (by decide) ?_
          exact ih (b + 1) S2 ch2 an2 A3 (by omega) (by omega) q1 q2 q3
        refine z_iload F dX6_locks_95 rfl ?_
        refine z_aload_n F dX6_locks_97 rfl ?_
        refine z_mi F rfl 4 rfl (Nat.le_of_ble_eq_true rfl) rfl q1484 dX6_locks_98 ?_
        refine z_ieq (hF) ?_
        refine z_icmp_geN F (by omega) (by omega) (tgt := 184) dX6_locks_101 (by decide) (fun c_101 => ?_) (fun c_101 => ?_)
        · refine z_iincN F 1 dX6_locks_184 rfl rfl ?_
          refine z_leq (L' := [_, _, _, _, _, _, _]) rfl ?_
          refine z_goto F (tgt := 83) dX6_locks_187 (by decide) ?_
          rw [show b = n by omega] at hs1
          refine z_loc _ ?_ (kk S1 ch an A1 hs1 hA hS)
          exact ⟨rfl, rfl, rfl, rfl, rfl, trivial⟩
        · exact cell a b S1 ch an A1 ha (by omega) hA hS (fun S2 ch2 an2 A3 q1 q2 q3 => back S2 ch2 an2 A3 (by omega) (by rw [lkr, hs1]; exact q1) q2 q3)
    have rows : ∀ (s0 : LK), (∀ S2 ch2 an2 A3, lka n f s0 n = (S2, ch2, an2) → frm [66] A2 A3 → mBq n (A3 66) S2 → Z X [some (zr 1 0), some (zi (nI j)), some (zi (bI ch2)), some (zi (bI an2)), none, none, none] [] [zH, zG F1 G A3 B] 0 0 72) →
        ∀ (m a : Nat) (S1 : Nat → Nat → Bool) (ch an : Bool) (A1 : Nat → Nat → Int32), n - a < m → a ≤ n → lka n f s0 a = (S1, ch, an) → frm [66] A2 A1 → mBq n (A1 66) S1 → Z X [some (zr 1 0), some (zi (nI j)), some (zi (bI ch)), some (zi (bI an)), some (zi (nI a)), none, none] [] [zH, zG F1 G A1 B] 0 0 83 := by
      intro s0 kk m
      induction m with
      | zero => intro a S1 ch an A1 hm; omega
      | succ m ih =>
        intro a S1 ch an A1 hm ha hs1 hA hS
        refine z_iload F dX6_locks_83 rfl ?_
        refine z_aload_n F dX6_locks_85 rfl ?_
        refine z_mi F rfl 4 rfl (Nat.le_of_ble_eq_true rfl) rfl q1484 dX6_locks_86 ?_
        refine z_ieq (hF) ?_
        refine z_icmp_geN F (by omega) (by omega) (tgt := 190) dX6_locks_89 (by decide) (fun c_89 => ?_) (fun c_89 => ?_)
        · refine z_goto F (tgt := 72) dX6_locks_190 (by decide) ?_
          rw [show a = n by omega] at hs1
          refine z_loc _ ?_ (kk S1 ch an A1 hs1 hA hS)
          exact ⟨rfl, rfl, rfl, rfl, trivial⟩
        · refine z_iconst F (nI 0) dX6_locks_92 rfl ?_
          refine z_istore F dX6_locks_93 (Nat.le_of_ble_eq_true rfl) ?_
          refine z_leq (L' := [_, _, _, _, _, _, _]) rfl ?_
          exact row a (S1, ch, an) (by omega) (fun S2 ch2 an2 A3 q1 q2 q3 => ih (a + 1) S2 ch2 an2 A3 (by omega) (by omega) (by rw [lka, hs1]; exact q1) q2 q3) (n + 1) 0 S1 ch an A1 (by omega) (by omega) rfl hA hS
    have fin : ∀ (v : Bool) (A1 : Nat → Nat → Int32), v = lkV n f → frm [66] A2 A1 → Z X [some (zr 1 0), some (zi (nI j)), some (zi (bI false)), some (zi (bI v)), none, none, none] [] [zH, zG F1 G A1 B] 0 0 72 := by
      intro v A1 hv' hA
      refine z_iload_n F dX6_locks_72 rfl ?_
      refine z_if_eqB F (tgt := 193) dX6_locks_73 (by decide) (fun c_73 => ?_) (fun c_73 => ?_)
      · refine z_iload_n F dX6_locks_193 rfl ?_
        exact z_zret F E rfl (bI_nar _) dX6_locks_194 (by omega) (by omega) (⟨by rw [hcj, hv']; rfl, F1, A1, rfl, f0, f1, f2.tr hA (by decide) (by decide)⟩)
      · cases c_73
    have lp : ∀ (m : Nat) (S : Nat → Nat → Bool) (an : Bool) (A1 : Nat → Nat → Int32), cS n S < m → (lkl n f m S).2.2 = lkV n f → frm [66] A2 A1 → mBq n (A1 66) S → Z X [some (zr 1 0), some (zi (nI j)), some (zi (bI true)), some (zi (bI an)), none, none, none] [] [zH, zG F1 G A1 B] 0 0 72 := by
      intro m
      induction m with
      | zero => intro S an A1 hm; omega
      | succ m ih =>
        intro S an A1 hm hR hA hS
        have nx : ∀ S2 ch2 an2 A3, lka n f (S, false, false) n = (S2, ch2, an2) → frm [66] A2 A3 → mBq n (A3 66) S2 → Z X [some (zr 1 0), some (zi (nI j)), some (zi (bI ch2)), some (zi (bI an2)), none, none, none] [] [zH, zG F1 G A3 B] 0 0 72 := by
          intro S2 ch2 an2 A3 q1 q2 q3
          cases ch2 with
          | true =>
            have e := lk_less (n := n) (f := f) (S := S) (by rw [q1])
            rw [q1] at e
            have e3 : cS n S2 < cS n S := e
            exact ih S2 an2 A3 (by omega) (by rw [← hR, lkl, q1]; rfl) q2 q3
          | false => exact fin an2 A3 (by rw [← hR, lkl, q1]; rfl) q2
        refine z_iload_n F dX6_locks_72 rfl ?_
        refine z_if_eqB F (tgt := 193) dX6_locks_73 (by decide) (fun c_73 => ?_) (fun c_73 => ?_)
        · cases c_73
        · refine z_iconstB F false dX6_locks_76 rfl ?_
          refine z_istore_n F dX6_locks_77 (Nat.le_of_ble_eq_true rfl) ?_
          refine z_leq (L' := [_, _, _, _, _, _, _]) rfl ?_
          refine z_iconstB F false dX6_locks_78 rfl ?_
          refine z_istore_n F dX6_locks_79 (Nat.le_of_ble_eq_true rfl) ?_
          refine z_leq (L' := [_, _, _, _, _, _, _]) rfl ?_
          refine z_iconst F (nI 0) dX6_locks_80 rfl ?_
          refine z_istore F dX6_locks_81 (Nat.le_of_ble_eq_true rfl) ?_
          refine z_leq (L' := [_, _, _, _, _, _, _]) rfl ?_
          exact rows (S, false, false) nx (n + 1) 0 S false false A1 (by omega) (by omega) rfl hA hS
    have ini : ∀ (a : Nat), a < n → (∀ A1, frm [66] A2 A1 → (∀ x y, x < n → y < n → x < a + 1 → A1 66 (24 * x + y) = bI (bt (f x) y)) → Z X [some (zr 1 0), some (zi (nI j)), some (zi (nI (a + 1))), none, none, none, none] [] [zH, zG F1 G A1 B] 0 0 21) →
        ∀ (m b : Nat) (A1 : Nat → Nat → Int32), n - b < m → b ≤ n → frm [66] A2 A1 → (∀ x y, x < n → y < n → (x < a ∨ x = a ∧ y < b) → A1 66 (24 * x + y) = bI (bt (f x) y)) → Z X [some (zr 1 0), some (zi (nI j)), some (zi (nI a)), some (zi (nI b)), none, none, none] [] [zH, zG F1 G A1 B] 0 0 31 := by
      intro a ha kk m
      induction m with
      | zero => intro b A1 hm; omega
      | succ m ih =>
        intro b A1 hm hb hA h0
        refine z_iload_n F dX6_locks_31 rfl ?_
        refine z_aload_n F dX6_locks_32 rfl ?_
        refine z_mi F rfl 4 rfl (Nat.le_of_ble_eq_true rfl) rfl q1484 dX6_locks_33 ?_
        refine z_ieq (hF) ?_
        refine z_icmp_geN F (by omega) (by omega) (tgt := 62) dX6_locks_36 (by decide) (fun c_36 => ?_) (fun c_36 => ?_)
        · refine z_iincN F 1 dX6_locks_62 rfl rfl ?_
          refine z_leq (L' := [_, _, _, _, _, _, _]) rfl ?_
          refine z_goto F (tgt := 21) dX6_locks_65 (by decide) ?_
          rw [show b = n by omega] at h0
          refine z_loc _ ?_ (kk A1 hA (fun x y hx hy q => h0 x y hx hy (by omega)))
          exact ⟨rfl, rfl, rfl, trivial⟩
        · refine z_aload_n F dX6_locks_39 rfl ?_
          refine z_ma F rfl 66 rfl (Nat.le_of_ble_eq_true rfl) rfl q1546 dX6_locks_40 ?_
          refine z_bipush F (nI 24) dX6_locks_43 rfl ?_
          refine z_iload_n F dX6_locks_45 rfl ?_
          refine z_imulN F dX6_locks_46 ?_
          refine z_iload_n F dX6_locks_47 rfl ?_
          refine z_iaddN F dX6_locks_48 ?_
          refine z_aload_n F dX6_locks_49 rfl ?_
          refine z_iload_n F dX6_locks_50 rfl ?_
          refine z_iload_n F dX6_locks_51 rfl ?_
          refine z_callV F (c_isJoined _ _ _ _ a b (by omega) (by omega)) 2 rfl (lw_V q1748 q1750 qs46 q117 q1751) (by decide +kernel) ⟨Nat.le_of_ble_eq_true rfl, Nat.le_of_ble_eq_true rfl⟩ ⟨by omega, by omega⟩ [0, 1] 2 ⟨rfl, rfl, rfl, ⟨Or.inl rfl, Or.inr rfl, trivial⟩⟩ (fun h => nomatch h) (Nat.le_of_ble_eq_true rfl) ⟨⟨Or.inr trivial, Or.inl rfl, trivial⟩, rfl, rfl, rfl, Nat.le_of_ble_eq_true rfl⟩ rfl zC6 (zat_G0 rfl) rfl dX6_locks_52 (fun r_52 w_52 hp => ?_) (fun _ _ h => h.elim)
          obtain ⟨rfl, rfl⟩ := hp
          rw [hA.at 6 rfl, hf a ha]
          refine z_weq (w' := [zH, zG _ _ _ _]) rfl ?_
          refine z_seq (S' := zi _ :: _) rfl ?_
          refine z_zastGN F rfl rfl (Nat.le_of_ble_eq_true rfl) (by omega) dX6_locks_55 ?_
          refine z_weq (w' := [_, _]) rfl ?_
          refine z_iincN F 1 dX6_locks_56 rfl rfl ?_
          refine z_leq (L' := [_, _, _, _, _, _, _]) rfl ?_
          refine z_goto F (tgt := 31) dX6_locks_59 (by decide) ?_
          refine ih (b + 1) _ (by omega) (by omega) (frm_zup hA (by decide)) (fun x y hx hy q => ?_)
          rw [zup2_row]
          show (if 24 * x + y = 24 * a + b then _ else A1 66 (24 * x + y)) = _
          by_cases q2 : 24 * x + y = 24 * a + b
          · rw [if_pos q2, nar_bI, show x = a by omega, show y = b by omega]
          · rw [if_neg q2]; exact h0 x y hx hy (by omega)
    have inj : ∀ (m a : Nat) (A1 : Nat → Nat → Int32), n - a < m → a ≤ n → frm [66] A2 A1 → (∀ x y, x < n → y < n → x < a → A1 66 (24 * x + y) = bI (bt (f x) y)) → Z X [some (zr 1 0), some (zi (nI j)), some (zi (nI a)), none, none, none, none] [] [zH, zG F1 G A1 B] 0 0 21 := by
      intro m
      induction m with
      | zero => intro a A1 hm; omega
      | succ m ih =>
        intro a A1 hm ha hA h0
        have hnn : n * n ≤ 576 := Nat.mul_le_mul hn hn
        have hcS := cS_le n (fun a b => bt (f a) b)
        refine z_iload_n F dX6_locks_21 rfl ?_
        refine z_aload_n F dX6_locks_22 rfl ?_
        refine z_mi F rfl 4 rfl (Nat.le_of_ble_eq_true rfl) rfl q1484 dX6_locks_23 ?_
        refine z_ieq (hF) ?_
        refine z_icmp_geN F (by omega) (by omega) (tgt := 68) dX6_locks_26 (by decide) (fun c_26 => ?_) (fun c_26 => ?_)
        · refine z_iconstB F true dX6_locks_68 rfl ?_
          refine z_istore_n F dX6_locks_69 (Nat.le_of_ble_eq_true rfl) ?_
          refine z_leq (L' := [_, _, _, _, _, _, _]) rfl ?_
          refine z_iconstB F true dX6_locks_70 rfl ?_
          refine z_istore_n F dX6_locks_71 (Nat.le_of_ble_eq_true rfl) ?_
          refine z_leq (L' := [_, _, _, _, _, _, _]) rfl ?_
          exact lp 577 (fun a b => bt (f a) b) true A1 (by omega) rfl hA (fun x y hx hy => h0 x y hx hy (by omega))
        · refine z_iconst F (nI 0) dX6_locks_29 rfl ?_
          refine z_istore_n F dX6_locks_30 (Nat.le_of_ble_eq_true rfl) ?_
          refine z_leq (L' := [_, _, _, _, _, _, _]) rfl ?_
          exact ini a (by omega) (fun A3 q1 q2 => ih (a + 1) A3 (by omega) (by omega) q1 q2) (n + 1) 0 A1 (by omega) (by omega) hA (fun x y hx hy q => h0 x y hx hy (by omega))
    exact inj (n + 1) 0 A2 (by omega) (by omega) frm.rf (fun x y hx hy q => by omega)
  refine z_aload_n F dX6_locks_0 rfl ?_
  refine z_iload_n F dX6_locks_1 rfl ?_
  refine z_callV F (c_lays_ok _ _ _ _ j n (nI d) f hj (by omega) hn hs) 1 rfl (lw_V q1732 q1734 qs42 q117 q1735) (by decide +kernel) ⟨Nat.le_of_ble_eq_true rfl, Nat.le_of_ble_eq_true rfl⟩ ⟨by omega, by omega⟩ [0, 1] 2 ⟨rfl, rfl, rfl, ⟨Or.inl rfl, Or.inr rfl, trivial⟩⟩ (fun h => nomatch h) (Nat.le_of_ble_eq_true rfl) ⟨⟨Or.inr trivial, Or.inl rfl, trivial⟩, rfl, rfl, rfl, Nat.le_of_ble_eq_true rfl⟩ rfl zC6 (zat_G0 rfl) rfl dX6_locks_2 (fun r_2 w_2 hp => ?_) (fun _ _ h => h.elim)
  obtain ⟨rfl, F1, A1, rfl, f0, f1, f2, f3⟩ := hp
  refine z_weq (w' := [zH, zG _ _ _ _]) rfl ?_
  refine z_seq (S' := zi _ :: _) rfl ?_
  refine z_if_neB F (tgt := 10) dX6_locks_5 (by decide) (fun c_5 => ?_) (fun c_5 => ?_)
  · refine z_aload_n F dX6_locks_10 rfl ?_
    refine z_callV F (c_mroutes F1 _ _ _ n f hn f3.1 (fun k hk => f3.2.2 k (by omega))) 0 rfl (lw_V q2079 q2081 qs94 q117 q2082) (by decide +kernel) ⟨Nat.le_of_ble_eq_true rfl, Nat.le_of_ble_eq_true rfl⟩ ⟨by omega, by omega⟩ [0, 1] 2 ⟨rfl, rfl, rfl, ⟨Or.inl rfl, Or.inr rfl, trivial⟩⟩ (fun h => nomatch h) (Nat.le_of_ble_eq_true rfl) ⟨⟨Or.inr trivial, Or.inl rfl, trivial⟩, rfl, rfl, rfl, Nat.le_of_ble_eq_true rfl⟩ rfl zC6 (zat_G0 rfl) rfl dX6_locks_11 (fun r_11 w_11 hp => ?_) (fun _ _ h => h.elim)
    obtain ⟨rfl, A2, rfl, g1, g2, g3⟩ := hp
    rw [okA_cjn h]
    refine z_weq (w' := [zH, zG _ _ _ _]) rfl ?_
    refine z_seq (S' := zi _ :: _) rfl ?_
    refine z_if_neB F (tgt := 19) dX6_locks_14 (by decide) (fun c_14 => ?_) (fun c_14 => ?_)
    · refine z_iconst F (nI 0) dX6_locks_19 rfl ?_
      refine z_istore_n F dX6_locks_20 (Nat.le_of_ble_eq_true rfl) ?_
      refine z_leq (L' := [_, _, _, _, _, _, _]) rfl ?_
      exact main F1 A2 f0 f1 (f2.tr g1 (by decide) (by decide)) f3.1 (fun k hk => by rw [g1.at 6 rfl]; exact f3.2.2 k (by omega)) g3 c_14
    · refine z_iconst F (nI 0) dX6_locks_17 rfl ?_
      exact z_zret F E rfl rfl dX6_locks_18 (by omega) (by omega) (⟨by rw [c_14]; rfl, F1, A2, rfl, f0, f1, f2.tr g1 (by decide) (by decide)⟩)
  · cases c_5
end C82
