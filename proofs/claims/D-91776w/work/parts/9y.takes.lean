/-! matchings: whose way takes a line; the greatest matching of a line's senders (WiredNets) -/
section C9y
def vsN (n : Nat) (f : Nat → Int32) (a b t : Nat) : Nat → Nat → Nat
  | 0, _ => 0
  | e + 1, s => (if s = a ∧ hv n f s t = b then 1 else 0) + vsN n f a b t e (hv n f s t)
theorem vsN_le {n a b t : Nat} {f : Nat → Int32} : ∀ {e s : Nat}, vsN n f a b t e s ≤ e
  | 0, _ => Nat.le_refl _
  | e + 1, s => by
    have := vsN_le (n := n) (f := f) (a := a) (b := b) (t := t) (e := e) (s := hv n f s t)
    rw [vsN]
    split <;> omega
theorem lwk_vs {n a b t : Nat} {f : Nat → Int32} : ∀ {e s : Nat} {L : Nat → Nat → Int32}, lwk n f t e s L a b = L a b + nI (vsN n f a b t e s)
  | 0, s, L => by
    show L a b = L a b + nI 0
    rw [show nI 0 = (0 : Int32) from rfl, Int32.add_zero]
  | e + 1, s, L => by
    rw [lwk, vsN, lwk_vs, ← nI_add, ← Int32.add_assoc]
    congr 1
    unfold zup2
    by_cases q : a = s
    · rw [if_pos q]
      by_cases q2 : b = hv n f s t
      · rw [if_pos q2, if_pos ⟨q.symm, q2.symm⟩, q, q2]
      · rw [if_neg q2, if_neg (fun z => q2 z.2.symm), show nI 0 = (0 : Int32) from rfl, Int32.add_zero, q]
    · rw [if_neg q, if_neg (fun z => q z.1.symm), show nI 0 = (0 : Int32) from rfl, Int32.add_zero]
theorem lrow_vs {n a b s : Nat} {f : Nat → Int32} {L : Nat → Nat → Int32} : ∀ {k : Nat}, lrow n f s L k a b = L a b + nI (fb_sm (fun t => vsN n f a b t (dN n f s t) s) k)
  | 0 => by
    show L a b = L a b + nI 0
    rw [show nI 0 = (0 : Int32) from rfl, Int32.add_zero]
  | k + 1 => by rw [lrow, lwk_vs, lrow_vs, fb_sm_succ, ← nI_add, Int32.add_assoc]
def ldS (n : Nat) (f : Nat → Int32) (a b s : Nat) : Nat := fb_sm (fun t => vsN n f a b t (dN n f s t) s) n
def ldN (n : Nat) (f : Nat → Int32) (a b : Nat) : Nat := fb_sm (ldS n f a b) n
theorem lall_vs {n a b : Nat} {f : Nat → Int32} : ∀ {k : Nat}, lall n f k a b = nI (fb_sm (ldS n f a b) k)
  | 0 => rfl
  | k + 1 => by rw [lall, lrow_vs, lall_vs, fb_sm_succ, ← nI_add]; rfl
theorem dN_lt {n a b : Nat} {f : Nat → Int32} (hn : n ≤ 24) (hb : b < n) : dN n f a b < 32 := by
  unfold dN
  cases h : dst n f (allB n) a b with
  | none => show 0 < 32; omega
  | some e =>
    show e < 32
    have := dst_lt h (by omega)
    omega
theorem ldN_lt {n a b : Nat} {f : Nat → Int32} (hn : n ≤ 24) : ldN n f a b < 20000 := by
  have h1 : ∀ s, ldS n f a b s ≤ n * 32 := fun s => fb_sm_bound fun t ht => by
    have := vsN_le (n := n) (f := f) (a := a) (b := b) (t := t) (e := dN n f s t) (s := s)
    have := dN_lt (a := s) (b := t) (f := f) hn ht
    omega
  have h2 : ldN n f a b ≤ n * (24 * 32) := fb_sm_bound fun s _ => by have := h1 s; omega
  omega
def hvG (n : Nat) (f : Nat → Int32) (a b s t : Nat) : Bool := decide (t < n) && decide (0 < vsN n f a b t (dN n f s t) s)
theorem hvG_lt {n a b s t : Nat} {f : Nat → Int32} (h : hvG n f a b s t = true) : t < n := by
  unfold hvG at h
  rw [Bool.and_eq_true, decide_eq_true_eq] at h
  exact h.1
theorem gN_load {n a b : Nat} {f : Nat → Int32} : gN (hvG n f a b) n ≤ ldN n f a b := gN_le (ldS n f a b) (fun z t _ h => by
  unfold hvG at h
  rw [Bool.and_eq_true, decide_eq_true_eq, decide_eq_true_eq] at h
  have := fb_sm_part (fun t => vsN n f a b t (dN n f z t) z) h.1
  unfold ldS
  have h9 : 0 < vsN n f a b t (dN n f z t) z := h.2
  have h8 : fb_sm (fun t => vsN n f a b t (dN n f z t) z) t + vsN n f a b t (dN n f z t) z ≤ fb_sm (fun t => vsN n f a b t (dN n f z t) z) n := this
  omega) n
abbrev wTk (n : Nat) (d jo tr : Int32) (Hm : Nat → Nat → Int32) (Sd Ow : Nat → Int32) : List zE := [zH, eWy 2 4 5 6 7 8 9 jo tr, eNet 3 (nI n) d, zH, zH, zMi 4 0 24 24 Hm, zH, zH, zAi 0 24 Sd, zAi 0 24 Ow]
theorem c_wtakes (n d : Nat) (f : Nat → Int32) (jo tr : Int32) (Hm : Nat → Nat → Int32) (s t a b : Nat) (h : nok n d f) (hc : conn n f (allB n)) (hs : s < n) (ht : t < n) (ha : a < n) (hb : b < n) (hH : ∀ x y, x < n → y < n → ¬ x = y → Hm x y = nI (hv n f x y)) :
    zCtr yX13_takes cX13_takes 6 (some .boolean) 0 0 0 [zr 1 0, zi (nI s), zi (nI t), zi (nI a), zi (nI b)] [zH, eWy 2 4 5 6 7 8 9 jo tr, zH, zH, zH, zMi 4 0 24 24 Hm, zH, zH, zH, zH] (fun r w => r = some (zi (bI (hvG n f a b s t))) ∧ w = [zH, eWy 2 4 5 6 7 8 9 jo tr, zH, zH, zH, zMi 4 0 24 24 Hm, zH, zH, zH, zH]) zNx := by
  refine z_start (by decide) [some (zr 1 0), some (zi (nI s)), some (zi (nI t)), some (zi (nI a)), some (zi (nI b)), none] rfl (fun _ => Nat.le_of_ble_eq_true rfl) (fun _ => rfl) (fun X F E hno hin => ?_)
  have hn := h.n24
  have hG : hvG n f a b s t = decide (0 < vsN n f a b t (dN n f s t) s) := by
    unfold hvG; rw [decide_eq_true ht, Bool.true_and]
  have loop : ∀ (m x at_ : Nat), x < m → at_ < n → dst n f (allB n) at_ t = some x → (0 < vsN n f a b t x at_ ↔ 0 < vsN n f a b t (dN n f s t) s) → Z X [some (zr 1 0), some (zi (nI s)), some (zi (nI t)), some (zi (nI a)), some (zi (nI b)), some (zi (nI at_))] [] [zH, eWy 2 4 5 6 7 8 9 jo tr, zH, zH, zH, zMi 4 0 24 24 Hm, zH, zH, zH, zH] 0 0 3 := by
    intro m
    induction m with
    | zero => intro x at_ hm; omega
    | succ m ih =>
      intro x at_ hm hat hx hv_
      rcases x with _ | x
      ·
       have e0 : at_ = t := ((dst_PP (al_t hn hat) (al_lt hn) (by omega)).mp hx).1.1
       refine z_iload F dX13_takes_3 rfl ?_
       refine z_iload_n F dX13_takes_5 rfl ?_
       refine z_icmp_eqN F (by omega) (by omega) (tgt := 45) dX13_takes_6 (by decide) (fun c_6 => ?_) (fun c_6 => ?_)
       · refine z_iconst F (nI 0) dX13_takes_45 rfl ?_
         exact z_zret F E rfl rfl dX13_takes_46 (by omega) (by omega) (⟨by
  rw [hG, decide_eq_false (fun z => by have h9 := hv_.mpr z; rw [vsN] at h9; omega)]; rfl, rfl⟩)
       · exact absurd c_6 (by omega)
      obtain ⟨s1, s2, s3⟩ := hv_step h hc hat ht hx
      have hab : ¬ at_ = t := fun q => by
        subst q
        rw [dst_self (al_t hn hat)] at hx; cases hx
      have g1 := hH at_ t hat ht hab
      rw [vsN] at hv_
      refine z_iload F dX13_takes_3 rfl ?_
      refine z_iload_n F dX13_takes_5 rfl ?_
      refine z_icmp_eqN F (by omega) (by omega) (tgt := 45) dX13_takes_6 (by decide) (fun c_6 => ?_) (fun c_6 => ?_)
      · exact absurd c_6 (by omega)
      · refine z_iload F dX13_takes_9 rfl ?_
        refine z_iload_n F dX13_takes_11 rfl ?_
        refine z_icmp_neN F (by omega) (by omega) (tgt := 31) dX13_takes_12 (by decide) (fun c_12 => ?_) (fun c_12 => ?_)
        · refine z_aload_n F dX13_takes_31 rfl ?_
          refine z_get F zC13 (f := 3) rfl (Nat.le_of_ble_eq_true rfl) q1321 rfl dX13_takes_32 ?_
          refine z_iload F dX13_takes_35 rfl ?_
          refine z_aaldMN F rfl (Or.inl rfl) (Nat.le_of_ble_eq_true rfl) (by omega) dX13_takes_37 ?_
          refine z_iload_n F dX13_takes_38 rfl ?_
          refine z_ialdMN F rfl (by omega) (Nat.le_of_ble_eq_true rfl) (by omega) rfl dX13_takes_39 ?_
          refine z_ieq (g1) ?_
          refine z_istore F dX13_takes_40 (Nat.le_of_ble_eq_true rfl) ?_
          refine z_leq (L' := [_, _, _, _, _, _]) rfl ?_
          refine z_goto F (tgt := 3) dX13_takes_42 (by decide) ?_
          exact ih x (hv n f at_ t) (by omega) s1 s2 (by rw [if_neg (fun z => c_12 z.1), Nat.zero_add] at hv_; exact hv_)
        · refine z_aload_n F dX13_takes_15 rfl ?_
          refine z_get F zC13 (f := 3) rfl (Nat.le_of_ble_eq_true rfl) q1321 rfl dX13_takes_16 ?_
          refine z_iload F dX13_takes_19 rfl ?_
          refine z_aaldMN F rfl (Or.inl rfl) (Nat.le_of_ble_eq_true rfl) (by omega) dX13_takes_21 ?_
          refine z_iload_n F dX13_takes_22 rfl ?_
          refine z_ialdMN F rfl (by omega) (Nat.le_of_ble_eq_true rfl) (by omega) rfl dX13_takes_23 ?_
          refine z_ieq (g1) ?_
          refine z_iload F dX13_takes_24 rfl ?_
          refine z_icmp_neN F (by omega) (by omega) (tgt := 31) dX13_takes_26 (by decide) (fun c_26 => ?_) (fun c_26 => ?_)
          · refine z_aload_n F dX13_takes_31 rfl ?_
            refine z_get F zC13 (f := 3) rfl (Nat.le_of_ble_eq_true rfl) q1321 rfl dX13_takes_32 ?_
            refine z_iload F dX13_takes_35 rfl ?_
            refine z_aaldMN F rfl (Or.inl rfl) (Nat.le_of_ble_eq_true rfl) (by omega) dX13_takes_37 ?_
            refine z_iload_n F dX13_takes_38 rfl ?_
            refine z_ialdMN F rfl (by omega) (Nat.le_of_ble_eq_true rfl) (by omega) rfl dX13_takes_39 ?_
            refine z_ieq (g1) ?_
            refine z_istore F dX13_takes_40 (Nat.le_of_ble_eq_true rfl) ?_
            refine z_leq (L' := [_, _, _, _, _, _]) rfl ?_
            refine z_goto F (tgt := 3) dX13_takes_42 (by decide) ?_
            exact ih x (hv n f at_ t) (by omega) s1 s2 (by rw [if_neg (fun z => c_26 z.2), Nat.zero_add] at hv_; exact hv_)
          · refine z_iconst F (nI 1) dX13_takes_29 rfl ?_
            exact z_zret F E rfl rfl dX13_takes_30 (by omega) (by omega) (⟨by
  rw [hG, decide_eq_true (hv_.mp (by rw [if_pos ⟨c_12, c_26⟩]; omega))]; rfl, rfl⟩)
  refine z_iload_n F dX13_takes_0 rfl ?_
  refine z_istore F dX13_takes_1 (Nat.le_of_ble_eq_true rfl) ?_
  refine z_leq (L' := [_, _, _, _, _, _]) rfl ?_
  exact loop (dN n f s t + 1) _ s (by omega) hs (dN_eq hn hc hs ht) Iff.rfl
theorem c_wmatching (n dd : Nat) (f : Nat → Int32) (d jo tr : Int32) (Hm : Nat → Nat → Int32) (Sd Ow : Nat → Int32) (a b : Nat) (h : nok n dd f) (hc : conn n f (allB n)) (ha : a < n) (hb : b < n) (hH : ∀ x y, x < n → y < n → ¬ x = y → Hm x y = nI (hv n f x y)) :
    zCtr yX13_matching cX13_matching 5 (some .int) 26 0 0 [zr 1 0, zi (nI a), zi (nI b)] (wTk n d jo tr Hm Sd Ow) (fun r w => r = some (zi (nI (gN (hvG n f a b) n))) ∧ ∃ tr' Sd' Ow', w = wTk n d jo tr' Hm Sd' Ow') zNx := by
  refine z_start (by decide) [some (zr 1 0), some (zi (nI a)), some (zi (nI b)), none, none] rfl (fun _ => Nat.le_of_ble_eq_true rfl) (fun _ => rfl) (fun X F E hno hin => ?_)
  have hn := h.n24
  have two : ∀ (Sd : Nat → Int32), (∀ z t, z < n → t < 24 → bt (Sd z) t = hvG n f a b z t) → ∀ (m k : Nat) (tr : Int32) (Ow : Nat → Int32) (O : Nat → Option Nat), n - k < m → k ≤ n → mS (hvG n f a b) (gS (hvG n f a b) k) O → (∀ t, t < n → Ow t = dI (O t)) → Z X [some (zr 1 0), some (zi (nI a)), some (zi (nI b)), some (zi (nI (gN (hvG n f a b) k))), some (zi (nI k))] [] (wTk n d jo tr Hm Sd Ow) 0 0 84 := by
    intro Sd hS m
    induction m with
    | zero => intro k tr Ow O hm; omega
    | succ m ih =>
      intro k tr Ow O hm hk hM hO
      have hkk := gN_k (g := hvG n f a b) k
      have hSn : ∀ z, gS (hvG n f a b) k z → z < n := fun z q => by have := gS_lt q; omega
      have at101 : k < n → Z X [some (zr 1 0), some (zi (nI a)), some (zi (nI b)), some (zi (nI (gN (hvG n f a b) k))), some (zi (nI k))] [] (wTk n d jo (nI 0) Hm Sd Ow) 0 0 101 := by
        intro hkn
        have hno : ∀ t, O t = some k → bt (nI 0) t = true := fun t e => by
          have := gS_lt (hM.1 t k e).2.2
          omega
        have cc := c_wgets n d jo (hvG n f a b) Sd hn hS (fun z t q => hvG_lt q) 24 k (nI 0) _ O Ow (fb_ct_le _ 24) hkn hSn hM hno hO
        refine z_aload_n F dX13_matching_101 rfl ?_
        refine z_iload F dX13_matching_102 rfl ?_
        refine z_callV F (cc) 1 rfl (lw_V q1387 q1389 qs36 q141 q1390) (by decide +kernel) ⟨Nat.le_of_ble_eq_true rfl, Nat.le_of_ble_eq_true rfl⟩ ⟨by omega, by omega⟩ [0, 1, 2, 3, 4, 5, 6, 7, 8, 9] 10 ⟨rfl, rfl, rfl, ⟨Or.inl rfl, Or.inr rfl, Or.inr rfl, Or.inl rfl, Or.inl rfl, Or.inl rfl, Or.inl rfl, Or.inl rfl, Or.inr rfl, Or.inr rfl, trivial⟩⟩ (fun h => nomatch h) (Nat.le_of_ble_eq_true rfl) ⟨⟨Or.inr trivial, Or.inl rfl, Or.inl rfl, Or.inr trivial, Or.inr trivial, Or.inr trivial, Or.inr trivial, Or.inr trivial, Or.inl rfl, Or.inl rfl, trivial⟩, rfl, rfl, rfl, Nat.le_of_ble_eq_true rfl⟩ rfl zC13 rfl rfl dX13_matching_104 (fun r_104 w_104 hp => ?_) (fun _ _ h => h.elim)
        rcases hp with ⟨rfl, tr3, rfl, k1, k2, k3⟩ | ⟨rfl, tr3, O1, Ow1, rfl, k1, k2⟩
        ·
          refine z_weq (w' := wTk n d jo tr3 Hm Sd Ow) rfl ?_
          refine z_seq (S' := [zi _]) rfl ?_
          have hno2 := gN_no hM (hall hM (fun q => by have := gS_lt q; omega) (by omega) ⟨k2, fun t ht => k3 t ht (b_0 t)⟩)
          refine z_if_eqB F (tgt := 113) dX13_matching_107 (by decide) (fun c_107 => ?_) (fun c_107 => ?_)
          · refine z_iincN F 1 dX13_matching_113 rfl rfl ?_
            refine z_leq (L' := [_, _, _, _, _]) rfl ?_
            refine z_goto F (tgt := 84) dX13_matching_116 (by decide) ?_
            refine z_loc _ ?_ (ih (k + 1) tr3 Ow O (by omega) (by omega) hno2.2 hO)
            rw [hno2.1]
            exact ⟨rfl, rfl, rfl, rfl, rfl, trivial⟩
          · cases c_107
        refine z_weq (w' := wTk n d jo tr3 Hm Sd Ow1) rfl ?_
        refine z_seq (S' := [zi _]) rfl ?_
        have hyes := gN_yes (gt_top hn hkn hSn k2)
        refine z_if_eqB F (tgt := 113) dX13_matching_107 (by decide) (fun c_107 => ?_) (fun c_107 => ?_)
        · cases c_107
        · refine z_iincN F 1 dX13_matching_110 rfl rfl ?_
          refine z_leq (L' := [_, _, _, _, _]) rfl ?_
          refine z_iincN F 1 dX13_matching_113 rfl rfl ?_
          refine z_leq (L' := [_, _, _, _, _]) rfl ?_
          refine z_goto F (tgt := 84) dX13_matching_116 (by decide) ?_
          refine z_loc _ ?_ (ih (k + 1) tr3 Ow1 O1 (by omega) (by omega) hyes.2 k1)
          rw [hyes.1]
          exact ⟨rfl, rfl, rfl, rfl, rfl, trivial⟩
      refine z_iload F dX13_matching_84 rfl ?_
      refine z_aload_n F dX13_matching_86 rfl ?_
      refine z_get F zC13 (f := 0) rfl (Nat.le_of_ble_eq_true rfl) q1317 rfl dX13_matching_87 ?_
      refine z_getN F zC5 (f := 0) rfl (Nat.le_of_ble_eq_true rfl) q239 rfl dX13_matching_90 ?_
      refine z_icmp_geN F (by omega) (by omega) (tgt := 119) dX13_matching_93 (by decide) (fun c_93 => ?_) (fun c_93 => ?_)
      · refine z_iload_n F dX13_matching_119 rfl ?_
        exact z_iret F E rfl dX13_matching_120 (by omega) (by omega) (⟨by rw [show k = n by omega], _, Sd, Ow, rfl⟩)
      · refine z_aload_n F dX13_matching_96 rfl ?_
        refine z_iconst F (nI 0) dX13_matching_97 rfl ?_
        refine z_put F zC13 (f := 8) rfl (Nat.le_of_ble_eq_true rfl) q1328 rfl (fun _ => rfl) (fun _ => rfl) (Nat.le_of_ble_eq_true rfl) dX13_matching_98 ?_
        refine z_weq (w' := [_, zO _ [_, _, _, _, _, _, _, _, _], _, _, _, _, _, _, _, _]) rfl ?_
        exact at101 (by omega)
  have one : ∀ (s : Nat), s < n → (∀ (Sd Ow : Nat → Int32), (∀ z t, z < s + 1 → t < 24 → bt (Sd z) t = hvG n f a b z t) → (∀ t, t < s + 1 → Ow t = -1) → Z X [some (zr 1 0), some (zi (nI a)), some (zi (nI b)), some (zi (nI (s + 1))), none] [] (wTk n d jo tr Hm Sd Ow) 0 0 2) →
      ∀ (m t : Nat) (Sd Ow : Nat → Int32), n - t < m → t ≤ n → (∀ z t, z < s → t < 24 → bt (Sd z) t = hvG n f a b z t) → (∀ u, u < 24 → bt (Sd s) u = (decide (u < t) && hvG n f a b s u)) → (∀ t, t < s + 1 → Ow t = -1) → Z X [some (zr 1 0), some (zi (nI a)), some (zi (nI b)), some (zi (nI s)), some (zi (nI t))] [] (wTk n d jo tr Hm Sd Ow) 0 0 30 := by
    intro s hs kk m
    induction m with
    | zero => intro t Sd Ow hm; omega
    | succ m ih =>
      intro t Sd Ow hm ht hS hS2 hO
      refine z_iload F dX13_matching_30 rfl ?_
      refine z_aload_n F dX13_matching_32 rfl ?_
      refine z_get F zC13 (f := 0) rfl (Nat.le_of_ble_eq_true rfl) q1317 rfl dX13_matching_33 ?_
      refine z_getN F zC5 (f := 0) rfl (Nat.le_of_ble_eq_true rfl) q239 rfl dX13_matching_36 ?_
      refine z_icmp_geN F (by omega) (by omega) (tgt := 73) dX13_matching_39 (by decide) (fun c_39 => ?_) (fun c_39 => ?_)
      · refine z_iincN F 1 dX13_matching_73 rfl rfl ?_
        refine z_leq (L' := [_, _, _, _, _]) rfl ?_
        refine z_goto F (tgt := 2) dX13_matching_76 (by decide) ?_
        refine z_loc _ ?_ (kk Sd Ow (fun z u hz hu => ?_) hO)
        · exact ⟨rfl, rfl, rfl, rfl, trivial⟩
        by_cases e : z = s
        · rw [e, hS2 u hu]
          cases hg : hvG n f a b s u with
          | false => rw [Bool.and_false]
          | true => rw [decide_eq_true (show u < t by have := hvG_lt hg; omega)]; rfl
        · exact hS z u (by omega) hu
      · refine z_aload_n F dX13_matching_42 rfl ?_
        refine z_iload_n F dX13_matching_43 rfl ?_
        refine z_iload F dX13_matching_44 rfl ?_
        refine z_iload_n F dX13_matching_46 rfl ?_
        refine z_iload_n F dX13_matching_47 rfl ?_
        refine z_callV F (c_wtakes n dd f jo tr Hm s t a b h hc hs (by omega) ha hb hH) 4 rfl (lw_V q1383 q1385 qs35 q141 q1386) (by decide +kernel) ⟨Nat.le_of_ble_eq_true rfl, Nat.le_of_ble_eq_true rfl⟩ ⟨by omega, by omega⟩ [0, 1, 2, 3, 4, 5, 6, 7, 8, 9] 10 ⟨rfl, rfl, rfl, ⟨Or.inl rfl, Or.inr rfl, Or.inl rfl, Or.inl rfl, Or.inl rfl, Or.inr rfl, Or.inl rfl, Or.inl rfl, Or.inl rfl, Or.inl rfl, trivial⟩⟩ (fun h => nomatch h) (Nat.le_of_ble_eq_true rfl) ⟨⟨Or.inr trivial, Or.inl rfl, Or.inr rfl, Or.inr trivial, Or.inr trivial, Or.inl rfl, Or.inr trivial, Or.inr trivial, Or.inr trivial, Or.inr trivial, trivial⟩, rfl, rfl, rfl, Nat.le_of_ble_eq_true rfl⟩ rfl zC13 rfl rfl dX13_matching_48 (fun r_48 w_48 hp => ?_) (fun _ _ h => h.elim)
        obtain ⟨rfl, rfl⟩ := hp
        refine z_weq (w' := [zH, zO _ [zr _ _, zi _, zr _ _, zr _ _, zr _ _, zr _ _, zr _ _, zr _ _, zi _], zO _ [zi _, zi _, zr _ _], zH, zH, zMi 4 0 24 24 _, zH, zH, zAi 0 24 _, zAi 0 24 _]) rfl ?_
        refine z_seq (S' := zi _ :: _) rfl ?_
        refine z_if_eqB F (tgt := 67) dX13_matching_51 (by decide) (fun c_51 => ?_) (fun c_51 => ?_)
        · refine z_iincN F 1 dX13_matching_67 rfl rfl ?_
          refine z_leq (L' := [_, _, _, _, _]) rfl ?_
          refine z_goto F (tgt := 30) dX13_matching_70 (by decide) ?_
          exact ih (t + 1) Sd Ow (by omega) (by omega) hS (fun u hu => by
            rw [hS2 u hu]
            by_cases e : u = t
            · rw [e, c_51, Bool.and_false, Bool.and_false]
            · congr 1
              by_cases e2 : u < t
              · rw [decide_eq_true e2, decide_eq_true (by omega)]
              · rw [decide_eq_false e2, decide_eq_false (by omega)]) hO
        · refine z_aload_n F dX13_matching_54 rfl ?_
          refine z_get F zC13 (f := 6) rfl (Nat.le_of_ble_eq_true rfl) q1326 rfl dX13_matching_55 ?_
          refine z_iload_n F dX13_matching_58 rfl ?_
          refine z_dup2 F dX13_matching_59 rfl rfl ?_
          refine z_ialdN F rfl (Nat.le_of_ble_eq_true rfl) (by omega) rfl dX13_matching_60 ?_
          refine z_iconst F (nI 1) dX13_matching_61 rfl ?_
          refine z_iload F dX13_matching_62 rfl ?_
          refine z_ishlB F dX13_matching_64 ?_
          refine z_ior F dX13_matching_65 ?_
          refine z_iastN F rfl (Nat.le_of_ble_eq_true rfl) (by omega) dX13_matching_66 ?_
          refine z_weq (w' := [_, _, _, _, _, _, _, _, _, _]) rfl ?_
          refine z_iincN F 1 dX13_matching_67 rfl rfl ?_
          refine z_leq (L' := [_, _, _, _, _]) rfl ?_
          refine z_goto F (tgt := 30) dX13_matching_70 (by decide) ?_
          refine ih (t + 1) _ Ow (by omega) (by omega) (fun z u hz hu => ?_) (fun u hu => ?_) hO
          · show bt (if z = s then _ else Sd z) u = _
            rw [if_neg (by omega)]; exact hS z u hz hu
          show bt (if s = s then _ else Sd s) u = _
          rw [if_pos rfl, bt_or1 _ (by omega), hS2 u hu]
          by_cases e : u = t
          · rw [e, c_51, decide_eq_true rfl, Bool.or_true, decide_eq_true (by omega)]; rfl
          · rw [decide_eq_false e, Bool.or_false]
            congr 1
            by_cases e2 : u < t
            · rw [decide_eq_true e2, decide_eq_true (by omega)]
            · rw [decide_eq_false e2, decide_eq_false (by omega)]
  have rows : ∀ (m s : Nat) (Sd Ow : Nat → Int32), n - s < m → s ≤ n → (∀ z t, z < s → t < 24 → bt (Sd z) t = hvG n f a b z t) → (∀ t, t < s → Ow t = -1) → Z X [some (zr 1 0), some (zi (nI a)), some (zi (nI b)), some (zi (nI s)), none] [] (wTk n d jo tr Hm Sd Ow) 0 0 2 := by
    intro m
    induction m with
    | zero => intro s Sd Ow hm; omega
    | succ m ih =>
      intro s Sd Ow hm hs hS hO
      refine z_iload_n F dX13_matching_2 rfl ?_
      refine z_aload_n F dX13_matching_3 rfl ?_
      refine z_get F zC13 (f := 0) rfl (Nat.le_of_ble_eq_true rfl) q1317 rfl dX13_matching_4 ?_
      refine z_getN F zC5 (f := 0) rfl (Nat.le_of_ble_eq_true rfl) q239 rfl dX13_matching_7 ?_
      refine z_icmp_geN F (by omega) (by omega) (tgt := 79) dX13_matching_10 (by decide) (fun c_10 => ?_) (fun c_10 => ?_)
      · refine z_iconst F (nI 0) dX13_matching_79 rfl ?_
        refine z_istore_n F dX13_matching_80 (Nat.le_of_ble_eq_true rfl) ?_
        refine z_leq (L' := [_, _, _, _, _]) rfl ?_
        refine z_iconst F (nI 0) dX13_matching_81 rfl ?_
        refine z_istore F dX13_matching_82 (Nat.le_of_ble_eq_true rfl) ?_
        refine z_leq (L' := [_, _, _, _, _]) rfl ?_
        exact two Sd (fun z t hz ht => hS z t (by omega) ht) (n + 1) 0 tr Ow (fun _ => none) (by omega) (by omega) (mS_0 _) (fun t ht => hO t (by omega))
      · refine z_aload_n F dX13_matching_13 rfl ?_
        refine z_get F zC13 (f := 6) rfl (Nat.le_of_ble_eq_true rfl) q1326 rfl dX13_matching_14 ?_
        refine z_iload_n F dX13_matching_17 rfl ?_
        refine z_iconst F (nI 0) dX13_matching_18 rfl ?_
        refine z_iastN F rfl (Nat.le_of_ble_eq_true rfl) (by omega) dX13_matching_19 ?_
        refine z_weq (w' := [_, _, _, _, _, _, _, _, _, _]) rfl ?_
        refine z_aload_n F dX13_matching_20 rfl ?_
        refine z_get F zC13 (f := 7) rfl (Nat.le_of_ble_eq_true rfl) q1327 rfl dX13_matching_21 ?_
        refine z_iload_n F dX13_matching_24 rfl ?_
        refine z_iconst F (-1) dX13_matching_25 rfl ?_
        refine z_iastN F rfl (Nat.le_of_ble_eq_true rfl) (by omega) dX13_matching_26 ?_
        refine z_weq (w' := [_, _, _, _, _, _, _, _, _, _]) rfl ?_
        refine z_iconst F (nI 0) dX13_matching_27 rfl ?_
        refine z_istore F dX13_matching_28 (Nat.le_of_ble_eq_true rfl) ?_
        refine z_leq (L' := [_, _, _, _, _]) rfl ?_
        refine one s (by omega) (fun Sd2 Ow2 q1 q2 => ih (s + 1) Sd2 Ow2 (by omega) (by omega) q1 q2) (n + 1) 0 _ _ (by omega) (by omega) (fun z u hz hu => ?_) (fun u hu => ?_) (fun u hu => ?_)
        · show bt (if z = s then _ else Sd z) u = _
          rw [if_neg (by omega)]; exact hS z u hz hu
        · show bt (if s = s then nI 0 else Sd s) u = _
          rw [if_pos rfl, show bt (nI 0) u = false from b_0 u, decide_eq_false (by omega)]; rfl
        · show (if u = s then _ else Ow u) = _
          by_cases e : u = s
          · rw [if_pos e]
          · rw [if_neg e]; exact hO u (by omega)
  refine z_iconst F (nI 0) dX13_matching_0 rfl ?_
  refine z_istore_n F dX13_matching_1 (Nat.le_of_ble_eq_true rfl) ?_
  refine z_leq (L' := [_, _, _, _, _]) rfl ?_
  exact rows (n + 1) 0 Sd Ow (by omega) (by omega) (fun z t hz => absurd hz (by omega)) (fun t ht => absurd ht (by omega))
end C9y
