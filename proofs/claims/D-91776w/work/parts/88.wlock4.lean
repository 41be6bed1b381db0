/-! Ways: locks, the answer -/
section C88
theorem c_wlk_last {n d0 : Nat} {d tr : Int32} {f : Nat → Int32} (h : nok n d0 f) {X : zX} {ret : Option FieldType} {mc ms : Nat} (F : zFix X cX13_locks yX13_locks.cls ret 7 1 mc ms 10 false) (hmc : 25 ≤ mc) (hms : 600 ≤ ms) (S : Nat → Nat → Bool) (Fr : Nat → Nat → Int32) (hF : frQ n f S Fr) (hsub : ∀ x y, S x y = true → bt (f x) y = true) (a : Nat) (ha : a < n)
    (kk : ∀ v, (v = true ↔ ∃ x y, (x < a + 1) ∧ x < n ∧ y < n ∧ S x y = true) → Z X [some (zr 1 0), some (zr 10 0), some (zi (bI false)), some (zi (bI v)), some (zi (nI (a + 1))), none, none] [] (wLk n d tr f true Fr) 25 600 171) :
    ∀ (m b : Nat) (v : Bool), n - b < m → b ≤ n → (v = true ↔ ∃ x y, (x < a ∨ x = a ∧ y < b) ∧ x < n ∧ y < n ∧ S x y = true) → Z X [some (zr 1 0), some (zr 10 0), some (zi (bI false)), some (zi (bI v)), some (zi (nI a)), some (zi (nI b)), none] [] (wLk n d tr f true Fr) 25 600 193 := by
  have hn := h.n24
  intro m
  induction m with
  | zero => intro b v hm; omega
  | succ m ih =>
    intro b v hm hb hv'
    have next : ∀ v2, b < n → v2 = (v || S a b) → Z X [some (zr 1 0), some (zr 10 0), some (zi (bI false)), some (zi (bI v2)), some (zi (nI a)), some (zi (nI (b + 1))), none] [] (wLk n d tr f true Fr) 25 600 193 := fun v2 hbn q => ih (b + 1) v2 (by omega) (by omega) (by
      rw [q, Bool.or_eq_true, hv']
      constructor
      · rintro (⟨x, y, e1, e2, e3, e4⟩ | e)
        · exact ⟨x, y, by omega, e2, e3, e4⟩
        · exact ⟨a, b, Or.inr ⟨rfl, by omega⟩, ha, hbn, e⟩
      · rintro ⟨x, y, e1, e2, e3, e4⟩
        by_cases q2 : x = a ∧ y = b
        · rw [q2.1, q2.2] at e4; exact Or.inr e4
        · exact Or.inl ⟨x, y, by omega, e2, e3, e4⟩)
    have gF : b < n → Fr a b = bI (bt (f a) b && !S a b) := fun q => hF a b ha q
    refine z_iload F dX13_locks_193 rfl ?_
    refine z_aload_n F dX13_locks_195 rfl ?_
    refine z_get F zC13 (f := 0) rfl (Nat.le_of_ble_eq_true rfl) q1317 rfl dX13_locks_196 ?_
    refine z_getN F zC5 (f := 0) rfl (Nat.le_of_ble_eq_true rfl) q239 rfl dX13_locks_199 ?_
    refine z_icmp_geN F (by omega) (by omega) (tgt := 245) dX13_locks_202 (by decide) (fun c_202 => ?_) (fun c_202 => ?_)
    · refine z_iincN F 1 dX13_locks_245 rfl rfl ?_
      refine z_leq (L' := [_, _, _, _, _, _, _]) rfl ?_
      refine z_goto F (tgt := 171) dX13_locks_248 (by decide) ?_
      refine z_loc _ ?_ (kk v (hv'.trans ⟨fun ⟨x, y, e1, e2, e3, e4⟩ => ⟨x, y, by omega, e2, e3, e4⟩, fun ⟨x, y, e1, e2, e3, e4⟩ => ⟨x, y, by omega, e2, e3, e4⟩⟩))
      exact ⟨rfl, rfl, rfl, rfl, rfl, trivial⟩
    · refine z_iload_n F dX13_locks_205 rfl ?_
      refine z_if_neB F (tgt := 233) dX13_locks_206 (by decide) (fun c_206 => ?_) (fun c_206 => ?_)
      · refine z_iconstB F true dX13_locks_233 rfl ?_
        refine z_goto F (tgt := 238) dX13_locks_234 (by decide) ?_
        refine z_istore_n F dX13_locks_238 (Nat.le_of_ble_eq_true rfl) ?_
        refine z_leq (L' := [_, _, _, _, _, _, _]) rfl ?_
        refine z_iincN F 1 dX13_locks_239 rfl rfl ?_
        refine z_leq (L' := [_, _, _, _, _, _, _]) rfl ?_
        refine z_goto F (tgt := 193) dX13_locks_242 (by decide) ?_
        exact next true (by omega) (by rw [c_206]; rfl)
      · refine z_aload_n F dX13_locks_209 rfl ?_
        refine z_get F zC13 (f := 0) rfl (Nat.le_of_ble_eq_true rfl) q1317 rfl dX13_locks_210 ?_
        refine z_iload F dX13_locks_213 rfl ?_
        refine z_iload F dX13_locks_215 rfl ?_
        refine z_callV F (c_has (nI n) d f a b (by omega) (by omega)) 2 rfl (lw_V q1312 q508 q509 q116 q510) (by decide +kernel) ⟨Nat.le_of_ble_eq_true rfl, Nat.le_of_ble_eq_true rfl⟩ ⟨by omega, by omega⟩ [0, 2, 3] 11 ⟨rfl, rfl, rfl, ⟨Or.inl rfl, Or.inr rfl, Or.inr rfl, trivial⟩⟩ (fun h => nomatch h) (Nat.le_of_ble_eq_true rfl) ⟨⟨Or.inr trivial, Or.inr rfl, Or.inl rfl, Or.inl rfl, Or.inr trivial, Or.inr trivial, Or.inr trivial, Or.inr trivial, Or.inr trivial, Or.inr trivial, Or.inr trivial, trivial⟩, rfl, rfl, rfl, Nat.le_of_ble_eq_true rfl⟩ rfl zC5 rfl rfl dX13_locks_217 (fun r_217 w_217 hp => ?_) (fun _ _ h => h.elim)
        obtain ⟨rfl, rfl⟩ := hp
        refine z_weq (w' := [zH, zO _ [zr _ _, zi _, zr _ _, zr _ _, zr _ _, zr _ _, zr _ _, zr _ _, zi _], zO _ [zi _, zi _, zr _ _], zAi 0 24 _, zH, zH, zH, zMi 4 0 24 24 _, zH, zH, zMi 6 2 24 24 _]) rfl ?_
        refine z_seq (S' := zi _ :: _) rfl ?_
        refine z_if_eqB F (tgt := 237) dX13_locks_220 (by decide) (fun c_220 => ?_) (fun c_220 => ?_)
        · refine z_iconstB F false dX13_locks_237 rfl ?_
          refine z_istore_n F dX13_locks_238 (Nat.le_of_ble_eq_true rfl) ?_
          refine z_leq (L' := [_, _, _, _, _, _, _]) rfl ?_
          refine z_iincN F 1 dX13_locks_239 rfl rfl ?_
          refine z_leq (L' := [_, _, _, _, _, _, _]) rfl ?_
          refine z_goto F (tgt := 193) dX13_locks_242 (by decide) ?_
          exact next false (by omega) (by
            cases q : S a b with
            | false => rw [c_206]; rfl
            | true => rw [hsub a b q] at c_220; cases c_220)
        · refine z_aload_n F dX13_locks_223 rfl ?_
          refine z_iload F dX13_locks_224 rfl ?_
          refine z_aaldMN F rfl (Or.inr (Or.inr rfl)) (Nat.le_of_ble_eq_true rfl) (by omega) dX13_locks_226 ?_
          refine z_iload F dX13_locks_227 rfl ?_
          refine z_zaldMN F rfl (by omega) (Nat.le_of_ble_eq_true rfl) (by omega) rfl dX13_locks_229 ?_
          refine z_ieq (gF (by omega)) ?_
          refine z_if_neB F (tgt := 237) dX13_locks_230 (by decide) (fun c_230 => ?_) (fun c_230 => ?_)
          · refine z_iconstB F false dX13_locks_237 rfl ?_
            refine z_istore_n F dX13_locks_238 (Nat.le_of_ble_eq_true rfl) ?_
            refine z_leq (L' := [_, _, _, _, _, _, _]) rfl ?_
            refine z_iincN F 1 dX13_locks_239 rfl rfl ?_
            refine z_leq (L' := [_, _, _, _, _, _, _]) rfl ?_
            refine z_goto F (tgt := 193) dX13_locks_242 (by decide) ?_
            exact next false (by omega) (by rw [c_220, Bool.true_and] at c_230; rw [c_206, show S a b = false by simpa using c_230]; rfl)
          · refine z_iconstB F true dX13_locks_233 rfl ?_
            refine z_goto F (tgt := 238) dX13_locks_234 (by decide) ?_
            refine z_istore_n F dX13_locks_238 (Nat.le_of_ble_eq_true rfl) ?_
            refine z_leq (L' := [_, _, _, _, _, _, _]) rfl ?_
            refine z_iincN F 1 dX13_locks_239 rfl rfl ?_
            refine z_leq (L' := [_, _, _, _, _, _, _]) rfl ?_
            refine z_goto F (tgt := 193) dX13_locks_242 (by decide) ?_
            exact next true (by omega) (by rw [c_220, Bool.true_and] at c_230; rw [c_206, show S a b = true by simpa using c_230]; rfl)
end C88
