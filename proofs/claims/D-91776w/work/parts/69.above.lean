/-! how many own numbers lie above -/
section C69
theorem nI_dn (j : Nat) : nI (j + 1) - nI 1 = nI j := nI_pred j
theorem nI_dn' (j : Nat) : nI j + Int32.ofInt (-1) = nI j - nI 1 := by rw [Int32.sub_eq_add_neg]; rfl
theorem dn_lt {j i : Nat} (h : j ≤ i) (hi : i < 2 ^ 31) : nI j - nI 1 < nI i := by
  cases j with
  | zero =>
    rw [Int32.lt_iff_toInt_lt, nI_toInt hi, show (nI 0 - nI 1).toInt = -1 from by decide]
    omega
  | succ j =>
    rw [nI_dn]
    exact nI_lt (by omega) hi
def shI (n : Nat) (Y : Int64) (P : Nat → Int64) : Nat → Nat → Int64
  | 0 => P
  | t + 1 => vp_updL (shI n Y P t) (n - 1 - t) (shI n Y P t (n - 1 - t) + Y * shI n Y P t (n - 1 - t + 1))
def shO (n : Nat) (Y : Int64) (P : Nat → Int64) : Nat → Nat → Int64
  | 0 => P
  | i + 1 => shI n Y (shO n Y P i) (n - i)
theorem shI_cong {n : Nat} {Y : Int64} {P P' : Nat → Int64} (h : ∀ j, j ≤ n → P j = P' j) : ∀ t, t ≤ n → ∀ j, j ≤ n → shI n Y P t j = shI n Y P' t j
  | 0, _, j, hj => h j hj
  | t + 1, ht, j, hj => by
    have ih := shI_cong (Y := Y) h t (by omega)
    show vp_updL _ _ _ j = vp_updL _ _ _ j
    unfold vp_updL
    by_cases q : j = n - 1 - t
    · rw [if_pos q, if_pos q, ih _ (by omega), ih _ (by omega)]
    · rw [if_neg q, if_neg q, ih j hj]
theorem shO_cong {n : Nat} {Y : Int64} {P P' : Nat → Int64} (h : ∀ j, j ≤ n → P j = P' j) : ∀ i, i ≤ n → ∀ j, j ≤ n → shO n Y P i j = shO n Y P' i j
  | 0, _, j, hj => h j hj
  | i + 1, hi, j, hj => shI_cong (fun j hj => shO_cong h i (by omega) j hj) (n - i) (by omega) j hj
theorem shI_top {n : Nat} {Y : Int64} {P : Nat → Int64} : ∀ t, t ≤ n → shI n Y P t n = P n
  | 0, _ => rfl
  | t + 1, ht => by
    show vp_updL _ _ _ n = _
    unfold vp_updL
    rw [if_neg (by omega), shI_top t (by omega)]
theorem shO_top {n : Nat} {Y : Int64} {P : Nat → Int64} : ∀ i, i ≤ n → shO n Y P i n = P n
  | 0, _ => rfl
  | i + 1, hi => (shI_top (n - i) (by omega)).trans (shO_top i (by omega))
theorem plS_top {n : Nat} {f : Nat → Int32} : ∀ k, k ≤ n → (plS n f k).1 n = 1
  | 0, _ => if_pos rfl
  | k + 1, hk => by
    rw [plS]
    show (if n = n - (k + 1) then _ else _) = _
    rw [if_neg (by omega), plS_top k (by omega)]
def scS (n : Nat) (P : Nat → Int64) : Nat → Nat × Bool
  | 0 => (0, true)
  | t + 1 => if P (n - 1 - t) = 0 then scS n P t else if decide (0 < P (n - 1 - t)) = (scS n P t).2 then scS n P t else ((scS n P t).1 + 1, !(scS n P t).2)
theorem scS_cong {n : Nat} {P P' : Nat → Int64} (h : ∀ j, j ≤ n → P j = P' j) : ∀ t, scS n P t = scS n P' t
  | 0 => rfl
  | t + 1 => by rw [scS, scS, scS_cong h t, h _ (by omega)]
theorem scS_le {n : Nat} {P : Nat → Int64} : ∀ t, (scS n P t).1 ≤ t
  | 0 => Nat.le_refl _
  | t + 1 => by
    have := scS_le (n := n) (P := P) t
    rw [scS]
    split
    · omega
    · split
      · omega
      · show _ + 1 ≤ _; omega
theorem sc1 {n t : Nat} {P : Nat → Int64} {c : Nat} {b : Bool} (h : scS n P t = (c, b)) (h1 : P (n - 1 - t) = 0) : scS n P (t + 1) = (c, b) := by rw [scS, if_pos h1, h]
theorem sc2 {n t : Nat} {P : Nat → Int64} {c : Nat} {b : Bool} (h : scS n P t = (c, b)) (h1 : ¬ P (n - 1 - t) = 0) (h2 : decide (0 < P (n - 1 - t)) = b) : scS n P (t + 1) = (c, b) := by rw [scS, if_neg h1, h, if_pos h2]
theorem sc3 {n t : Nat} {P : Nat → Int64} {c : Nat} {b : Bool} (h : scS n P t = (c, b)) (h1 : ¬ P (n - 1 - t) = 0) (h2 : ¬ decide (0 < P (n - 1 - t)) = b) : scS n P (t + 1) = (c + 1, !b) := by rw [scS, if_neg h1, h, if_neg h2]
def sgI (b : Bool) : Int32 := if b then nI 1 else -1
theorem sgI_neg (b : Bool) : -(sgI b) = sgI (!b) := by cases b <;> decide
theorem lcz {v : Int64} : lg_cmp v 0 = 0 ↔ v = 0 := by
  constructor
  · intro h
    have h1 := lc_ge.mp (show 0 ≤ lg_cmp v 0 by rw [h]; decide)
    have h2 := lc_le.mp (show lg_cmp v 0 ≤ 0 by rw [h]; decide)
    exact Int64.le_antisymm (Int64.not_lt.mp h2) (Int64.not_lt.mp h1)
  · rintro rfl; decide
theorem sgB {b : Bool} : sgI b ≤ 0 ↔ b = false := by cases b <;> decide
theorem sg_eq1 {v : Int64} {b : Bool} (h1 : ¬ lg_cmp v 0 ≤ 0) (h2 : ¬ sgI b ≤ 0) : decide (0 < v) = b := by
  rw [decide_eq_true (Classical.byContradiction fun z => h1 (lc_le.mpr z))]
  cases b with
  | true => rfl
  | false => exact absurd (sgB.mpr rfl) h2
theorem sg_eq2 {v : Int64} {b : Bool} (h1 : lg_cmp v 0 ≤ 0) (h2 : sgI b ≤ 0) : decide (0 < v) = b := by
  rw [decide_eq_false (lc_le.mp h1), sgB.mp h2]
theorem sg_ne1 {v : Int64} {b : Bool} (h1 : ¬ lg_cmp v 0 ≤ 0) (h2 : sgI b ≤ 0) : ¬ decide (0 < v) = b := by
  rw [decide_eq_true (Classical.byContradiction fun z => h1 (lc_le.mpr z)), sgB.mp h2]
  decide
theorem sg_ne2 {v : Int64} {b : Bool} (h1 : lg_cmp v 0 ≤ 0) (h2 : ¬ sgI b ≤ 0) : ¬ decide (0 < v) = b := by
  rw [decide_eq_false (lc_le.mp h1)]
  cases b with
  | true => decide
  | false => exact absurd (sgB.mpr rfl) h2
theorem c_xabove (n : Nat) (d : Int32) (f : Nat → Int32) (x : Int32) (hn : n ≤ 12) (hout : ∀ a, a < n → ∀ b, n ≤ b → bt (f a) b = false) :
    zCtr yX10_above cX10_above 7 (some .int) 3 320 7400 [zr 1 0, zi x] [zH, eNet 2 (nI n) d, zAi 0 24 f] (fun r w => r = some (zi (nI (scS n (shO n x.toInt64 (plS n f n).1 n) n).1)) ∧ w = [zH, eNet 2 (nI n) d, zAi 0 24 f]) zNx := by
  refine z_start (by decide) [some (zr 1 0), some (zi x), none, none, none, none, none] rfl (fun _ => Nat.le_of_ble_eq_true rfl) (fun _ => rfl) (fun X F E hno hin => ?_)
  have inner : ∀ (P0 : Nat → Int64) (T : Nat → Nat → Int64) (i : Nat), i < n → Z X [some (zr 1 0), some (zi x), some (zr 3 0), some (zi (nI n)), some (zi (nI (i + 1))), none, none] [] (wPl n d f (shI n x.toInt64 P0 (n - i)) T) 320 7400 13 →
      ∀ (m j1 : Nat), j1 < m → i ≤ j1 → j1 ≤ n → Z X [some (zr 1 0), some (zi x), some (zr 3 0), some (zi (nI n)), some (zi (nI i)), some (zi (nI j1 - nI 1)), none] [] (wPl n d f (shI n x.toInt64 P0 (n - j1)) T) 320 7400 24 := by
    intro P0 T i hi kk m
    induction m with
    | zero => intro j1 hm; omega
    | succ m ih =>
      intro j1 hm h1 h2
      by_cases hq : j1 = i
      · subst hq
        refine z_iload F dX10_above_24 rfl ?_
        refine z_iload F dX10_above_26 rfl ?_
        refine z_icmp_lt F (tgt := 53) dX10_above_28 (by decide) (fun c_28 => ?_) (fun c_28 => ?_)
        · refine z_iincN F 1 dX10_above_53 rfl rfl ?_
          refine z_leq (L' := [_, _, _, _, _, _, _]) rfl ?_
          refine z_goto F (tgt := 13) dX10_above_56 (by decide) ?_
          refine z_loc _ ?_ kk
          exact ⟨rfl, rfl, rfl, rfl, rfl, trivial⟩
        · exact absurd (dn_lt (Nat.le_refl j1) (by omega)) c_28
      · obtain ⟨j, rfl⟩ : ∃ j, j1 = j + 1 := ⟨j1 - 1, by omega⟩
        refine z_leq (L' := [some (zr 1 0), some (zi x), some (zr 3 0), some (zi (nI n)), some (zi (nI i)), some (zi (nI j)), none]) (by rw [nI_dn]) ?_
        refine z_iload F dX10_above_24 rfl ?_
        refine z_iload F dX10_above_26 rfl ?_
        refine z_icmp_ltN F (by omega) (by omega) (tgt := 53) dX10_above_28 (by decide) (fun c_28 => ?_) (fun c_28 => ?_)
        · exact absurd c_28 (by omega)
        · refine z_aload_n F dX10_above_31 rfl ?_
          refine z_iload F dX10_above_32 rfl ?_
          refine z_dup2 F dX10_above_34 rfl rfl ?_
          refine z_laldN F rfl (by omega) (by omega) rfl dX10_above_35 ?_
          refine z_iload_n F dX10_above_36 rfl ?_
          refine z_i2l F dX10_above_37 ?_
          refine z_aload_n F dX10_above_38 rfl ?_
          refine z_iload F dX10_above_39 rfl ?_
          refine z_iconst F (nI 1) dX10_above_41 rfl ?_
          refine z_iaddN F dX10_above_42 ?_
          refine z_laldN F rfl (by omega) (by omega) rfl dX10_above_43 ?_
          refine z_lmul F dX10_above_44 ?_
          refine z_ladd F dX10_above_45 ?_
          refine z_lastN F rfl (by omega) (by omega) dX10_above_46 ?_
          refine z_weq (w' := [_, _, _, _, _]) rfl ?_
          refine z_iinc F (nI j - nI 1) dX10_above_47 rfl (nI_dn' j) ?_
          refine z_leq (L' := [_, _, _, _, _, _, _]) rfl ?_
          refine z_goto F (tgt := 24) dX10_above_50 (by decide) ?_
          have e := ih j (by omega) (by omega) (by omega)
          rw [show n - j = n - (j + 1) + 1 by omega, shI, show n - 1 - (n - (j + 1)) = j by omega] at e
          exact e
  have sign : ∀ (Q : Nat → Int64) (T : Nat → Nat → Int64), (scS n Q n).1 = (scS n (shO n x.toInt64 (plS n f n).1 n) n).1 → ∀ (m j1 c : Nat) (b : Bool), j1 < m → j1 ≤ n → scS n Q (n - j1) = (c, b) →
      Z X [some (zr 1 0), some (zi x), some (zr 3 0), some (zi (nI n)), some (zi (nI c)), some (zi (sgI b)), some (zi (nI j1 - nI 1))] [] (wPl n d f Q T) 320 7400 70 := by
    intro Q T hQ m
    induction m with
    | zero => intro j1 c b hm; omega
    | succ m ih =>
      intro j1 c b hm h1 hs
      rcases j1 with _ | j
      ·
        refine z_iload F dX10_above_70 rfl ?_
        refine z_if_lt F (tgt := 128) dX10_above_72 (by decide) (fun c_72 => ?_) (fun c_72 => ?_)
        · refine z_take F 3 [zH, zO _ [zi _, zi _, zr _ _], zAi 0 24 _] rfl ?_
          refine z_iload F dX10_above_128 rfl ?_
          exact z_iret F E rfl dX10_above_130 (by omega) (by omega) (⟨by rw [← hQ, show scS n Q n = (c, b) from hs], rfl⟩)
        · exact absurd (by decide) c_72
      · have e1 : n - 1 - (n - (j + 1)) = j := by omega
        have e2 : n - j = n - (j + 1) + 1 := by omega
        have next : ∀ c' b', scS n Q (n - j) = (c', b') → Z X [some (zr 1 0), some (zi x), some (zr 3 0), some (zi (nI n)), some (zi (nI c')), some (zi (sgI b')), some (zi (nI j - nI 1))] [] (wPl n d f Q T) 320 7400 70 := fun c' b' h => ih j c' b' (by omega) (by omega) h
        refine z_leq (L' := [some (zr 1 0), some (zi x), some (zr 3 0), some (zi (nI n)), some (zi (nI c)), some (zi (sgI b)), some (zi (nI j))]) (by rw [nI_dn]) ?_
        refine z_iload F dX10_above_70 rfl ?_
        refine z_if_ltN F (by omega) (tgt := 128) dX10_above_72 (by decide) (fun c_72 => ?_) (fun c_72 => ?_)
        · exact absurd c_72 (by omega)
        · refine z_aload_n F dX10_above_75 rfl ?_
          refine z_iload F dX10_above_76 rfl ?_
          refine z_laldN F rfl (by omega) (by omega) rfl dX10_above_78 ?_
          refine z_lconst F 0 dX10_above_79 rfl ?_
          refine z_lcmp F dX10_above_80 ?_
          refine z_if_eq F (tgt := 122) dX10_above_81 (by decide) (fun c_81 => ?_) (fun c_81 => ?_)
          · refine z_iinc F (nI j - nI 1) dX10_above_122 rfl (nI_dn' j) ?_
            refine z_leq (L' := [_, _, _, _, _, _, _]) rfl ?_
            refine z_goto F (tgt := 70) dX10_above_125 (by decide) ?_
            exact next c b (by rw [e2]; exact sc1 hs (by rw [e1]; exact lcz.mp c_81))
          · refine z_aload_n F dX10_above_84 rfl ?_
            refine z_iload F dX10_above_85 rfl ?_
            refine z_laldN F rfl (by omega) (by omega) rfl dX10_above_87 ?_
            refine z_lconst F 0 dX10_above_88 rfl ?_
            refine z_lcmp F dX10_above_89 ?_
            refine z_if_le F (tgt := 97) dX10_above_90 (by decide) (fun c_90 => ?_) (fun c_90 => ?_)
            · refine z_iconst F (nI 0) dX10_above_97 rfl ?_
              refine z_iload F dX10_above_98 rfl ?_
              refine z_if_le F (tgt := 107) dX10_above_100 (by decide) (fun c_100 => ?_) (fun c_100 => ?_)
              · refine z_iconst F (nI 0) dX10_above_107 rfl ?_
                refine z_icmp_neN F (by omega) (by omega) (tgt := 114) dX10_above_108 (by decide) (fun c_108 => ?_) (fun c_108 => ?_)
                · refine z_iload F dX10_above_114 rfl ?_
                  refine z_ineg F dX10_above_116 ?_
                  refine z_ieq (sgI_neg b) ?_
                  refine z_istore F dX10_above_117 (Nat.le_of_ble_eq_true rfl) ?_
                  refine z_leq (L' := [_, _, _, _, _, _, _]) rfl ?_
                  refine z_iincN F 1 dX10_above_119 rfl rfl ?_
                  refine z_leq (L' := [_, _, _, _, _, _, _]) rfl ?_
                  refine z_iinc F (nI j - nI 1) dX10_above_122 rfl (nI_dn' j) ?_
                  refine z_leq (L' := [_, _, _, _, _, _, _]) rfl ?_
                  refine z_goto F (tgt := 70) dX10_above_125 (by decide) ?_
                  first
                    | exact absurd rfl c_108
                    | exact next (c + 1) (!b) (by rw [e2]; exact sc3 hs (by rw [e1]; exact fun z => c_81 (lcz.mpr z)) (by rw [e1]; first | exact sg_ne1 c_90 c_100 | exact sg_ne2 c_90 c_100))
                · refine z_goto F (tgt := 122) dX10_above_111 (by decide) ?_
                  refine z_iinc F (nI j - nI 1) dX10_above_122 rfl (nI_dn' j) ?_
                  refine z_leq (L' := [_, _, _, _, _, _, _]) rfl ?_
                  refine z_goto F (tgt := 70) dX10_above_125 (by decide) ?_
                  first
                    | exact absurd c_108 (by decide)
                    | exact next c b (by rw [e2]; exact sc2 hs (by rw [e1]; exact fun z => c_81 (lcz.mpr z)) (by rw [e1]; first | exact sg_eq1 c_90 c_100 | exact sg_eq2 c_90 c_100))
              · refine z_iconst F (nI 1) dX10_above_103 rfl ?_
                refine z_goto F (tgt := 108) dX10_above_104 (by decide) ?_
                refine z_icmp_neN F (by omega) (by omega) (tgt := 114) dX10_above_108 (by decide) (fun c_108 => ?_) (fun c_108 => ?_)
                · refine z_iload F dX10_above_114 rfl ?_
                  refine z_ineg F dX10_above_116 ?_
                  refine z_ieq (sgI_neg b) ?_
                  refine z_istore F dX10_above_117 (Nat.le_of_ble_eq_true rfl) ?_
                  refine z_leq (L' := [_, _, _, _, _, _, _]) rfl ?_
                  refine z_iincN F 1 dX10_above_119 rfl rfl ?_
                  refine z_leq (L' := [_, _, _, _, _, _, _]) rfl ?_
                  refine z_iinc F (nI j - nI 1) dX10_above_122 rfl (nI_dn' j) ?_
                  refine z_leq (L' := [_, _, _, _, _, _, _]) rfl ?_
                  refine z_goto F (tgt := 70) dX10_above_125 (by decide) ?_
                  first
                    | exact absurd rfl c_108
                    | exact next (c + 1) (!b) (by rw [e2]; exact sc3 hs (by rw [e1]; exact fun z => c_81 (lcz.mpr z)) (by rw [e1]; first | exact sg_ne1 c_90 c_100 | exact sg_ne2 c_90 c_100))
                · refine z_goto F (tgt := 122) dX10_above_111 (by decide) ?_
                  refine z_iinc F (nI j - nI 1) dX10_above_122 rfl (nI_dn' j) ?_
                  refine z_leq (L' := [_, _, _, _, _, _, _]) rfl ?_
                  refine z_goto F (tgt := 70) dX10_above_125 (by decide) ?_
                  first
                    | exact absurd c_108 (by decide)
                    | exact next c b (by rw [e2]; exact sc2 hs (by rw [e1]; exact fun z => c_81 (lcz.mpr z)) (by rw [e1]; first | exact sg_eq1 c_90 c_100 | exact sg_eq2 c_90 c_100))
            · refine z_iconst F (nI 1) dX10_above_93 rfl ?_
              refine z_goto F (tgt := 98) dX10_above_94 (by decide) ?_
              refine z_iload F dX10_above_98 rfl ?_
              refine z_if_le F (tgt := 107) dX10_above_100 (by decide) (fun c_100 => ?_) (fun c_100 => ?_)
              · refine z_iconst F (nI 0) dX10_above_107 rfl ?_
                refine z_icmp_neN F (by omega) (by omega) (tgt := 114) dX10_above_108 (by decide) (fun c_108 => ?_) (fun c_108 => ?_)
                · refine z_iload F dX10_above_114 rfl ?_
                  refine z_ineg F dX10_above_116 ?_
                  refine z_ieq (sgI_neg b) ?_
                  refine z_istore F dX10_above_117 (Nat.le_of_ble_eq_true rfl) ?_
                  refine z_leq (L' := [_, _, _, _, _, _, _]) rfl ?_
                  refine z_iincN F 1 dX10_above_119 rfl rfl ?_
                  refine z_leq (L' := [_, _, _, _, _, _, _]) rfl ?_
                  refine z_iinc F (nI j - nI 1) dX10_above_122 rfl (nI_dn' j) ?_
                  refine z_leq (L' := [_, _, _, _, _, _, _]) rfl ?_
                  refine z_goto F (tgt := 70) dX10_above_125 (by decide) ?_
                  first
                    | exact absurd rfl c_108
                    | exact next (c + 1) (!b) (by rw [e2]; exact sc3 hs (by rw [e1]; exact fun z => c_81 (lcz.mpr z)) (by rw [e1]; first | exact sg_ne1 c_90 c_100 | exact sg_ne2 c_90 c_100))
                · refine z_goto F (tgt := 122) dX10_above_111 (by decide) ?_
                  refine z_iinc F (nI j - nI 1) dX10_above_122 rfl (nI_dn' j) ?_
                  refine z_leq (L' := [_, _, _, _, _, _, _]) rfl ?_
                  refine z_goto F (tgt := 70) dX10_above_125 (by decide) ?_
                  first
                    | exact absurd c_108 (by decide)
                    | exact next c b (by rw [e2]; exact sc2 hs (by rw [e1]; exact fun z => c_81 (lcz.mpr z)) (by rw [e1]; first | exact sg_eq1 c_90 c_100 | exact sg_eq2 c_90 c_100))
              · refine z_iconst F (nI 1) dX10_above_103 rfl ?_
                refine z_goto F (tgt := 108) dX10_above_104 (by decide) ?_
                refine z_icmp_neN F (by omega) (by omega) (tgt := 114) dX10_above_108 (by decide) (fun c_108 => ?_) (fun c_108 => ?_)
                · refine z_iload F dX10_above_114 rfl ?_
                  refine z_ineg F dX10_above_116 ?_
                  refine z_ieq (sgI_neg b) ?_
                  refine z_istore F dX10_above_117 (Nat.le_of_ble_eq_true rfl) ?_
                  refine z_leq (L' := [_, _, _, _, _, _, _]) rfl ?_
                  refine z_iincN F 1 dX10_above_119 rfl rfl ?_
                  refine z_leq (L' := [_, _, _, _, _, _, _]) rfl ?_
                  refine z_iinc F (nI j - nI 1) dX10_above_122 rfl (nI_dn' j) ?_
                  refine z_leq (L' := [_, _, _, _, _, _, _]) rfl ?_
                  refine z_goto F (tgt := 70) dX10_above_125 (by decide) ?_
                  first
                    | exact absurd rfl c_108
                    | exact next (c + 1) (!b) (by rw [e2]; exact sc3 hs (by rw [e1]; exact fun z => c_81 (lcz.mpr z)) (by rw [e1]; first | exact sg_ne1 c_90 c_100 | exact sg_ne2 c_90 c_100))
                · refine z_goto F (tgt := 122) dX10_above_111 (by decide) ?_
                  refine z_iinc F (nI j - nI 1) dX10_above_122 rfl (nI_dn' j) ?_
                  refine z_leq (L' := [_, _, _, _, _, _, _]) rfl ?_
                  refine z_goto F (tgt := 70) dX10_above_125 (by decide) ?_
                  first
                    | exact absurd c_108 (by decide)
                    | exact next c b (by rw [e2]; exact sc2 hs (by rw [e1]; exact fun z => c_81 (lcz.mpr z)) (by rw [e1]; first | exact sg_eq1 c_90 c_100 | exact sg_eq2 c_90 c_100))
  have outer : ∀ (P : Nat → Int64) (T : Nat → Nat → Int64), (∀ j, j ≤ n → P j = (plS n f n).1 j) → ∀ (m i : Nat), n - i < m → i ≤ n → Z X [some (zr 1 0), some (zi x), some (zr 3 0), some (zi (nI n)), some (zi (nI i)), none, none] [] (wPl n d f (shO n x.toInt64 P i) T) 320 7400 13 := by
    intro P T hP m
    induction m with
    | zero => intro i hm; omega
    | succ m ih =>
      intro i hm hi
      refine z_iload F dX10_above_13 rfl ?_
      refine z_iload_n F dX10_above_15 rfl ?_
      refine z_icmp_geN F (by omega) (by omega) (tgt := 59) dX10_above_16 (by decide) (fun c_16 => ?_) (fun c_16 => ?_)
      · refine z_iconst F (nI 0) dX10_above_59 rfl ?_
        refine z_istore F dX10_above_60 (Nat.le_of_ble_eq_true rfl) ?_
        refine z_leq (L' := [_, _, _, _, _, _, _]) rfl ?_
        refine z_iconst F (nI 1) dX10_above_62 rfl ?_
        refine z_istore F dX10_above_63 (Nat.le_of_ble_eq_true rfl) ?_
        refine z_leq (L' := [_, _, _, _, _, _, _]) rfl ?_
        refine z_iload_n F dX10_above_65 rfl ?_
        refine z_iconst F (nI 1) dX10_above_66 rfl ?_
        refine z_isub F dX10_above_67 ?_
        refine z_istore F dX10_above_68 (Nat.le_of_ble_eq_true rfl) ?_
        refine z_leq (L' := [_, _, _, _, _, _, _]) rfl ?_
        rw [show i = n by omega]
        have e := sign (shO n x.toInt64 P n) T (by rw [scS_cong (fun j hj => shO_cong hP n (Nat.le_refl _) j hj)]) (n + 1) n 0 true (by omega) (Nat.le_refl _) (by rw [Nat.sub_self]; rfl)
        exact e
      · refine z_iload_n F dX10_above_19 rfl ?_
        refine z_iconst F (nI 1) dX10_above_20 rfl ?_
        refine z_isub F dX10_above_21 ?_
        refine z_istore F dX10_above_22 (Nat.le_of_ble_eq_true rfl) ?_
        refine z_leq (L' := [_, _, _, _, _, _, _]) rfl ?_
        have e := inner (shO n x.toInt64 P i) T i (by omega) (ih (i + 1) (by omega) (by omega)) (n + 1) n (by omega) (by omega) (Nat.le_refl _)
        rw [Nat.sub_self] at e
        exact e
  refine z_aload_n F dX10_above_0 rfl ?_
  refine z_callS F (c_poly n d f hn hout) 1 rfl (lw_S q904 q885 q133 q886) (by decide +kernel) ⟨Nat.le_of_ble_eq_true rfl, Nat.le_of_ble_eq_true rfl⟩ ⟨by omega, by omega⟩ [0, 1, 2] 3 ⟨rfl, rfl, rfl, ⟨Or.inl rfl, Or.inr rfl, Or.inr rfl, trivial⟩⟩ (fun h => nomatch h) (Nat.le_of_ble_eq_true rfl) ⟨⟨Or.inr trivial, Or.inl rfl, Or.inl rfl, trivial⟩, rfl, rfl, rfl, Nat.le_of_ble_eq_true rfl⟩ rfl rfl dX10_above_1 (fun r_1 w_1 hp => ?_) (fun _ _ h => h.elim)
  obtain ⟨rfl, P, T, rfl, hP⟩ := hp
  refine z_weq (w' := [zH, zO _ [zi _, zi _, zr _ _], zAi 0 24 _, zAl 1 (n + 1) _, zMl 5 1 n n _]) rfl ?_
  refine z_seq (S' := zr _ _ :: _) rfl ?_
  refine z_astore_n F dX10_above_4 (Nat.le_of_ble_eq_true rfl) ?_
  refine z_leq (L' := [_, _, _, _, _, _, _]) rfl ?_
  refine z_aload_n F dX10_above_5 rfl ?_
  refine z_getN F zC5 (f := 0) rfl (Nat.le_of_ble_eq_true rfl) q240 rfl dX10_above_6 ?_
  refine z_istore_n F dX10_above_9 (Nat.le_of_ble_eq_true rfl) ?_
  refine z_leq (L' := [_, _, _, _, _, _, _]) rfl ?_
  refine z_iconst F (nI 0) dX10_above_10 rfl ?_
  refine z_istore F dX10_above_11 (Nat.le_of_ble_eq_true rfl) ?_
  refine z_leq (L' := [_, _, _, _, _, _, _]) rfl ?_
  exact outer P T hP (n + 1) 0 (by omega) (by omega)
end C69
