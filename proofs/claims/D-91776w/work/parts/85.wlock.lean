/-! Ways: locks -/
section C85
def okc (n : Nat) (f : Nat → Int32) (S : Nat → Nat → Bool) (x y : Nat) : Nat → Bool
  | 0 => true
  | c + 1 => if bt (fall n f n x y) c = true ∧ S y c = true then false else okc n f S x y c
theorem okc_ap {n : Nat} {f : Nat → Int32} {S : Nat → Nat → Bool} {x y : Nat} : ∀ {k}, okc n f S x y k = false ↔ ∃ c, c < k ∧ bt (fall n f n x y) c = true ∧ S y c = true
  | 0 => ⟨fun h => (by cases h), fun ⟨c, h, _⟩ => (by omega)⟩
  | k + 1 => by
    rw [okc]
    by_cases q : bt (fall n f n x y) k = true ∧ S y k = true
    · rw [if_pos q]
      exact ⟨fun _ => ⟨k, by omega, q.1, q.2⟩, fun _ => rfl⟩
    · rw [if_neg q, okc_ap]
      constructor
      · rintro ⟨c, h1, h2, h3⟩; exact ⟨c, by omega, h2, h3⟩
      · rintro ⟨c, h1, h2, h3⟩
        by_cases q2 : c = k
        · subst q2; exact absurd ⟨h2, h3⟩ q
        · exact ⟨c, by omega, h2, h3⟩
theorem okc_ldz {n d : Nat} {f : Nat → Int32} {S : Nat → Nat → Bool} (h : nok n d f) (hc : conn n f (allB n)) {x y : Nat} (hx : x < n) (hy : y < n) : okc n f S x y n = !ldz n f S x y := by
  have e1 : okc n f S x y n = false ↔ ldz n f S x y = true := by
    rw [okc_ap]
    unfold ldz
    rw [oy_iff]
    constructor
    · rintro ⟨c, c1, c2, c3⟩
      obtain ⟨t, t1, t2, t3, t4, rfl⟩ := (fa_iff h hc hx).mp c2
      refine ⟨t, t1, ?_⟩
      unfold ldp
      rw [decide_eq_false t3, decide_eq_false t2, decide_eq_true t4, c3]; rfl
    · rintro ⟨t, t1, t2⟩
      unfold ldp at t2
      simp only [Bool.and_eq_true, Bool.not_eq_true', decide_eq_false_iff_not, decide_eq_true_eq] at t2
      obtain ⟨u1, u2, u3, u4⟩ := t2
      exact ⟨hv n f y t, hpm_lt h hc hy t1 (fun z => u1 z.symm), (fa_iff h hc hx).mpr ⟨t, t1, u2, u1, u3, rfl⟩, u4⟩
  cases q1 : okc n f S x y n <;> cases q2 : ldz n f S x y
  · rw [e1.mp q1] at q2; cases q2
  · rfl
  · rfl
  · rw [e1.mpr q2] at q1; cases q1
abbrev wLk (n : Nat) (d tr : Int32) (f : Nat → Int32) (jo : Bool) (Fr : Nat → Nat → Int32) : List zE := [zH, eWy 2 4 5 6 7 8 9 (bI jo) tr, eNet 3 (nI n) d, zAi 0 24 f, zH, zH, zH, zMi 4 0 24 24 (fall n f n), zH, zH, zMi 6 2 24 24 Fr]
/-- free: a line that doesn't stand -/
def frQ (n : Nat) (f : Nat → Int32) (S : Nat → Nat → Bool) (Fr : Nat → Nat → Int32) : Prop := ∀ x y, x < n → y < n → Fr x y = bI (bt (f x) y && !S x y)
theorem c_wlk_ok {n d0 : Nat} {d tr : Int32} {f : Nat → Int32} {jo : Bool} (h : nok n d0 f) (hc : conn n f (allB n)) {X : zX} {ret : Option FieldType} {dd mc ms nw : Nat} {np : Bool} (F : zFix X cX13_locks yX13_locks.cls ret 7 dd mc ms nw np) {k0 n0 : Nat} (S : Nat → Nat → Bool) (Fr : Nat → Nat → Int32) (hF : frQ n f S Fr) (hsub : ∀ x y, S x y = true → bt (f x) y = true) (a b : Nat) (ch : Bool) (ha : a < n) (hb : b < n)
    (kk : Z X [some (zr 1 0), some (zr 10 0), some (zi (bI ch)), some (zi (nI a)), some (zi (nI b)), some (zi (bI (!ldz n f S a b))), none] [] (wLk n d tr f jo Fr) k0 n0 128) : ∀ (m c : Nat), n - c < m → c ≤ n → Z X [some (zr 1 0), some (zr 10 0), some (zi (bI ch)), some (zi (nI a)), some (zi (nI b)), some (zi (bI (okc n f S a b c))), some (zi (nI c))] [] (wLk n d tr f jo Fr) k0 n0 79 := by
  have hn := h.n24
  intro m
  induction m with
  | zero => intro c hm; omega
  | succ m ih =>
    intro c hm hcn
    have gF : c < n → Fr b c = bI (bt (f b) c && !S b c) := fun q => hF b c hb q
    refine z_iload F dX13_locks_79 rfl ?_
    refine z_aload_n F dX13_locks_81 rfl ?_
    refine z_get F zC13 (f := 0) rfl (Nat.le_of_ble_eq_true rfl) q1317 rfl dX13_locks_82 ?_
    refine z_getN F zC5 (f := 0) rfl (Nat.le_of_ble_eq_true rfl) q239 rfl dX13_locks_85 ?_
    refine z_icmp_geN F (by omega) (by omega) (tgt := 128) dX13_locks_88 (by decide) (fun c_88 => ?_) (fun c_88 => ?_)
    · rw [show c = n by omega, okc_ldz h hc ha hb]
      refine z_loc _ ?_ kk
      exact ⟨rfl, rfl, rfl, rfl, rfl, rfl, trivial⟩
    · refine z_aload_n F dX13_locks_91 rfl ?_
      refine z_get F zC13 (f := 5) rfl (Nat.le_of_ble_eq_true rfl) q1325 rfl dX13_locks_92 ?_
      refine z_iload_n F dX13_locks_95 rfl ?_
      refine z_aaldMN F rfl (Or.inl rfl) (Nat.le_of_ble_eq_true rfl) (by omega) dX13_locks_96 ?_
      refine z_iload F dX13_locks_97 rfl ?_
      refine z_ialdMN F rfl (by omega) (Nat.le_of_ble_eq_true rfl) (by omega) rfl dX13_locks_99 ?_
      refine z_iload F dX13_locks_100 rfl ?_
      refine z_ishr F dX13_locks_102 ?_
      refine z_iconst F (nI 1) dX13_locks_103 rfl ?_
      refine z_iandB F (by omega) dX13_locks_104 ?_
      refine z_iconst F (nI 1) dX13_locks_105 rfl ?_
      refine z_icmp_neB F (tgt := 122) dX13_locks_106 (by decide) (fun c_106 => ?_) (fun c_106 => ?_)
      · refine z_iincN F 1 dX13_locks_122 rfl rfl ?_
        refine z_leq (L' := [_, _, _, _, _, _, _]) rfl ?_
        refine z_goto F (tgt := 79) dX13_locks_125 (by decide) ?_
        have e := ih (c + 1) (by omega) (by omega)
        rw [okc, if_neg (by rw [c_106]; simp)] at e
        exact e
      · refine z_aload_n F dX13_locks_109 rfl ?_
        refine z_iload F dX13_locks_110 rfl ?_
        refine z_aaldMN F rfl (Or.inr (Or.inr rfl)) (Nat.le_of_ble_eq_true rfl) (by omega) dX13_locks_112 ?_
        refine z_iload F dX13_locks_113 rfl ?_
        refine z_zaldMN F rfl (by omega) (Nat.le_of_ble_eq_true rfl) (by omega) rfl dX13_locks_115 ?_
        refine z_ieq (gF (by omega)) ?_
        refine z_if_neB F (tgt := 122) dX13_locks_116 (by decide) (fun c_116 => ?_) (fun c_116 => ?_)
        · refine z_iincN F 1 dX13_locks_122 rfl rfl ?_
          refine z_leq (L' := [_, _, _, _, _, _, _]) rfl ?_
          refine z_goto F (tgt := 79) dX13_locks_125 (by decide) ?_
          have e := ih (c + 1) (by omega) (by omega)
          rw [okc, if_neg (by rintro ⟨_, q⟩; rw [q] at c_116; simp at c_116)] at e
          exact e
        · refine z_iconstB F false dX13_locks_119 rfl ?_
          refine z_istore F dX13_locks_120 (Nat.le_of_ble_eq_true rfl) ?_
          refine z_leq (L' := [_, _, _, _, _, _, _]) rfl ?_
          refine z_iincN F 1 dX13_locks_122 rfl rfl ?_
          refine z_leq (L' := [_, _, _, _, _, _, _]) rfl ?_
          refine z_goto F (tgt := 79) dX13_locks_125 (by decide) ?_
          have e := ih (c + 1) (by omega) (by omega)
          rw [okc, if_pos ⟨c_106, by
            obtain ⟨t, t1, t2, t3, t4, t5⟩ := (fa_iff h hc ha).mp c_106
            have hl := hpm_lt h hc hb t1 (fun z => t3 z.symm)
            have hbt := (hpm_iff.mp ((lsf_spec (hpm n f b t) n).2.1 hl)).1
            change bt (f b) (hv n f b t) = true at hbt
            rw [t5] at hbt
            rw [hbt, Bool.true_and] at c_116
            simpa using c_116⟩] at e
          exact e
end C85
