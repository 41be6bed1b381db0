/-! load: the reference -/
section C78
def dN (n : Nat) (f : Nat → Int32) (a b : Nat) : Nat := (dst n f (allB n) a b).getD 0
theorem dN_eq {n : Nat} {f : Nat → Int32} (hn : n ≤ 24) (hc : conn n f (allB n)) {a b : Nat} (ha : a < n) (hb : b < n) : dst n f (allB n) a b = some (dN n f a b) := by
  obtain ⟨e, he⟩ := hc a b (al_t hn ha) (al_t hn hb)
  rw [dN, he]; rfl
def lrow (n : Nat) (f : Nat → Int32) (a : Nat) (L : Nat → Nat → Int32) : Nat → Nat → Nat → Int32
  | 0 => L
  | b + 1 => lwk n f b (dN n f a b) a (lrow n f a L b)
def lall (n : Nat) (f : Nat → Int32) : Nat → Nat → Nat → Int32
  | 0 => fun _ _ => nI 0
  | a + 1 => lrow n f a (lall n f a) n
def mEq (n : Nat) (T : Nat → Int32) (L : Nat → Nat → Int32) : Prop := ∀ u v, u < n → v < n → T (24 * u + v) = L u v
theorem mEq_up {n : Nat} {A : Nat → Nat → Int32} {r i j : Nat} {L : Nat → Nat → Int32} {x y : Int32} (h : mEq n (A r) L) (hn : n ≤ 24) (hj : j < n) (hxy : x = y) : mEq n (zup2 A r (24 * i + j) x r) (zup2 L i j y) := fun u v hu hv' => by
  rw [zup2_row]
  show (if 24 * u + v = 24 * i + j then x else A r (24 * u + v)) = _
  unfold zup2
  by_cases q : u = i
  · subst q
    rw [if_pos rfl]
    by_cases q2 : v = j
    · subst q2; rw [if_pos rfl, if_pos rfl, hxy]
    · rw [if_neg q2, if_neg (by omega)]; exact h u v hu hv'
  · rw [if_neg q, if_neg (by omega)]; exact h u v hu hv'
theorem c_mcounts (F0 : Nat → Int32) (G : Nat → Int64) (A : Nat → Nat → Int32) (B : Nat → Nat → Int64) (n d : Nat) (f : Nat → Int32) (h : nok n d f) (hc : conn n f (allB n)) (h4 : F0 4 = nI n) (hH : ∀ x y, x < n → y < n → A 65 (24 * x + y) = hpI n f x y) :
    zCtr yX6_counts cX6_counts 4 none 0 0 0 [zr 1 0] [zH, zG F0 G A B] (fun r w => r = none ∧ ∃ A', w = [zH, zG F0 G A' B] ∧ frm [67] A A' ∧ mEq n (A' 67) (lall n f n)) zNx := by
  refine z_start (by decide) [some (zr 1 0), none, none, none] rfl (fun _ => Nat.le_of_ble_eq_true rfl) (fun _ => rfl) (fun X F E hno hin => ?_)
  have hn := h.n24
  have way : ∀ (a b : Nat) (Lg : Nat → Nat → Int32), a < n → b < n → (∀ A1, frm [67] A A1 → mEq n (A1 67) Lg → Z X [some (zr 1 0), some (zi (nI a)), some (zi (nI b)), none] [] [zH, zG F0 G A1 B] 0 0 89) →
      ∀ (m x at_ : Nat) (L1 : Nat → Nat → Int32) (A1 : Nat → Nat → Int32), x < m → at_ < n → dst n f (allB n) at_ b = some x → lwk n f b x at_ L1 = Lg → frm [67] A A1 → mEq n (A1 67) L1 → Z X [some (zr 1 0), some (zi (nI a)), some (zi (nI b)), some (zi (nI at_))] [] [zH, zG F0 G A1 B] 0 0 44 := by
    intro a b Lg ha hb kk m
    induction m with
    | zero => intro x at_ L1 A1 hm; omega
    | succ m ih =>
      intro x at_ L1 A1 hm hat hx hl hA hL
      rcases x with _ | x
      ·
       have e0 : at_ = b := ((dst_PP (al_t hn hat) (al_lt hn) (by omega)).mp hx).1.1
       refine z_iload_n F dX6_counts_44 rfl ?_
       refine z_iload_n F dX6_counts_45 rfl ?_
       refine z_icmp_eqN F (by omega) (by omega) (tgt := 89) dX6_counts_46 (by decide) (fun c_46 => ?_) (fun c_46 => ?_)
       · refine z_loc _ ?_ (kk A1 hA (by rw [← hl]; exact hL))
         exact ⟨rfl, rfl, rfl, trivial⟩
       · exact absurd c_46 (by omega)
      obtain ⟨s1, s2, s3⟩ := hv_step h hc hat hb hx
      have hab : ¬ at_ = b := fun q => by
        subst q
        rw [dst_self (al_t hn hat)] at hx; cases hx
      have g1 : A1 65 (24 * at_ + b) = nI (hv n f at_ b) := by rw [hA.at 65 rfl, hH at_ b hat hb, hpI_hv h hc hat hb hab]
      refine z_iload_n F dX6_counts_44 rfl ?_
      refine z_iload_n F dX6_counts_45 rfl ?_
      refine z_icmp_eqN F (by omega) (by omega) (tgt := 89) dX6_counts_46 (by decide) (fun c_46 => ?_) (fun c_46 => ?_)
      · exact absurd c_46 (by omega)
      · refine z_aload_n F dX6_counts_49 rfl ?_
        refine z_ma F rfl 67 rfl (Nat.le_of_ble_eq_true rfl) rfl q1547 dX6_counts_50 ?_
        refine z_bipush F (nI 24) dX6_counts_53 rfl ?_
        refine z_iload_n F dX6_counts_55 rfl ?_
        refine z_imulN F dX6_counts_56 ?_
        refine z_aload_n F dX6_counts_57 rfl ?_
        refine z_ma F rfl 65 rfl (Nat.le_of_ble_eq_true rfl) rfl q1545 dX6_counts_58 ?_
        refine z_bipush F (nI 24) dX6_counts_61 rfl ?_
        refine z_iload_n F dX6_counts_63 rfl ?_
        refine z_imulN F dX6_counts_64 ?_
        refine z_iload_n F dX6_counts_65 rfl ?_
        refine z_iaddN F dX6_counts_66 ?_
        refine z_ialdGN F rfl rfl (Nat.le_of_ble_eq_true rfl) (by omega) rfl dX6_counts_67 ?_
        refine z_ieq (g1) ?_
        refine z_iaddN F dX6_counts_68 ?_
        refine z_dup2 F dX6_counts_69 rfl rfl ?_
        refine z_ialdGN F rfl rfl (Nat.le_of_ble_eq_true rfl) (by omega) rfl dX6_counts_70 ?_
        refine z_iconst F (nI 1) dX6_counts_71 rfl ?_
        refine z_iadd F dX6_counts_72 ?_
        refine z_iastGN F rfl rfl (Nat.le_of_ble_eq_true rfl) (by omega) dX6_counts_73 ?_
        refine z_weq (w' := [_, _]) rfl ?_
        refine z_aload_n F dX6_counts_74 rfl ?_
        refine z_ma F rfl 65 rfl (Nat.le_of_ble_eq_true rfl) rfl q1545 dX6_counts_75 ?_
        refine z_bipush F (nI 24) dX6_counts_78 rfl ?_
        refine z_iload_n F dX6_counts_80 rfl ?_
        refine z_imulN F dX6_counts_81 ?_
        refine z_iload_n F dX6_counts_82 rfl ?_
        refine z_iaddN F dX6_counts_83 ?_
        refine z_ialdGN F rfl rfl (Nat.le_of_ble_eq_true rfl) (by omega) rfl dX6_counts_84 ?_
        refine z_ieq ((congrFun (zup2_ne (by decide)) _).trans g1) ?_
        refine z_istore_n F dX6_counts_85 (Nat.le_of_ble_eq_true rfl) ?_
        refine z_leq (L' := [_, _, _, _]) rfl ?_
        refine z_goto F (tgt := 44) dX6_counts_86 (by decide) ?_
        exact ih x (hv n f at_ b) _ _ (by omega) s1 s2 hl (frm_zup hA (by decide)) (mEq_up hL hn s1 (congrArg (fun z => z + nI 1) (hL at_ _ hat s1)))
  have row : ∀ (a : Nat), a < n → (∀ A1, frm [67] A A1 → mEq n (A1 67) (lall n f (a + 1)) → Z X [some (zr 1 0), some (zi (nI (a + 1))), none, none] [] [zH, zG F0 G A1 B] 0 0 24) →
      ∀ (m b : Nat) (A1 : Nat → Nat → Int32), n - b < m → b ≤ n → frm [67] A A1 → mEq n (A1 67) (lrow n f a (lall n f a) b) → Z X [some (zr 1 0), some (zi (nI a)), some (zi (nI b)), none] [] [zH, zG F0 G A1 B] 0 0 34 := by
    intro a ha kk m
    induction m with
    | zero => intro b A1 hm; omega
    | succ m ih =>
      intro b A1 hm hb hA hL
      have back : ∀ A2, b < n → frm [67] A A2 → mEq n (A2 67) (lrow n f a (lall n f a) (b + 1)) → Z X [some (zr 1 0), some (zi (nI a)), some (zi (nI b)), none] [] [zH, zG F0 G A2 B] 0 0 89 := by
        intro A2 hbn g1 g2
        refine z_iincN F 1 dX6_counts_89 rfl rfl ?_
        refine z_leq (L' := [_, _, _, _]) rfl ?_
        refine z_goto F (tgt := 34) dX6_counts_92 (by decide) ?_
        exact ih (b + 1) A2 (by omega) (by omega) g1 g2
      refine z_iload_n F dX6_counts_34 rfl ?_
      refine z_aload_n F dX6_counts_35 rfl ?_
      refine z_mi F rfl 4 rfl (Nat.le_of_ble_eq_true rfl) rfl q1484 dX6_counts_36 ?_
      refine z_ieq (h4) ?_
      refine z_icmp_geN F (by omega) (by omega) (tgt := 95) dX6_counts_39 (by decide) (fun c_39 => ?_) (fun c_39 => ?_)
      · refine z_iincN F 1 dX6_counts_95 rfl rfl ?_
        refine z_leq (L' := [_, _, _, _]) rfl ?_
        refine z_goto F (tgt := 24) dX6_counts_98 (by decide) ?_
        rw [show b = n by omega] at hL
        refine z_loc _ ?_ (kk A1 hA hL)
        exact ⟨rfl, rfl, trivial⟩
      · refine z_iload_n F dX6_counts_42 rfl ?_
        refine z_istore_n F dX6_counts_43 (Nat.le_of_ble_eq_true rfl) ?_
        refine z_leq (L' := [_, _, _, _]) rfl ?_
        exact way a b _ ha (by omega) (fun A2 g1 g2 => back A2 (by omega) g1 g2) (dN n f a b + 1) (dN n f a b) a _ A1 (by omega) ha (dN_eq hn hc ha (by omega)) rfl hA hL
  have outer : ∀ (m a : Nat) (A1 : Nat → Nat → Int32), n - a < m → a ≤ n → frm [67] A A1 → mEq n (A1 67) (lall n f a) → Z X [some (zr 1 0), some (zi (nI a)), none, none] [] [zH, zG F0 G A1 B] 0 0 24 := by
    intro m
    induction m with
    | zero => intro a A1 hm; omega
    | succ m ih =>
      intro a A1 hm ha hA hL
      refine z_iload_n F dX6_counts_24 rfl ?_
      refine z_aload_n F dX6_counts_25 rfl ?_
      refine z_mi F rfl 4 rfl (Nat.le_of_ble_eq_true rfl) rfl q1484 dX6_counts_26 ?_
      refine z_ieq (h4) ?_
      refine z_icmp_geN F (by omega) (by omega) (tgt := 101) dX6_counts_29 (by decide) (fun c_29 => ?_) (fun c_29 => ?_)
      · exact z_vret F E rfl dX6_counts_101 (by omega) (by omega) (⟨rfl, A1, rfl, hA, by rw [show a = n by omega] at hL; exact hL⟩)
      · refine z_iconst F (nI 0) dX6_counts_32 rfl ?_
        refine z_istore_n F dX6_counts_33 (Nat.le_of_ble_eq_true rfl) ?_
        refine z_leq (L' := [_, _, _, _]) rfl ?_
        exact row a (by omega) (fun A2 g1 g2 => ih (a + 1) A2 (by omega) (by omega) g1 g2) (n + 1) 0 A1 (by omega) (by omega) hA hL
  have zer : ∀ (m i : Nat) (A1 : Nat → Nat → Int32), 576 - i < m → i ≤ 576 → frm [67] A A1 → (∀ k, k < i → A1 67 k = nI 0) → Z X [some (zr 1 0), some (zi (nI i)), none, none] [] [zH, zG F0 G A1 B] 0 0 2 := by
    intro m
    induction m with
    | zero => intro i A1 hm; omega
    | succ m ih =>
      intro i A1 hm hi hA h0
      refine z_iload_n F dX6_counts_2 rfl ?_
      refine z_sipush F (nI 576) dX6_counts_3 rfl ?_
      refine z_icmp_geN F (by omega) (by omega) (tgt := 22) dX6_counts_6 (by decide) (fun c_6 => ?_) (fun c_6 => ?_)
      · refine z_iconst F (nI 0) dX6_counts_22 rfl ?_
        refine z_istore_n F dX6_counts_23 (Nat.le_of_ble_eq_true rfl) ?_
        refine z_leq (L' := [_, _, _, _]) rfl ?_
        exact outer (n + 1) 0 A1 (by omega) (by omega) hA (fun u v hu hv' => h0 _ (by omega))
      · refine z_aload_n F dX6_counts_9 rfl ?_
        refine z_ma F rfl 67 rfl (Nat.le_of_ble_eq_true rfl) rfl q1547 dX6_counts_10 ?_
        refine z_iload_n F dX6_counts_13 rfl ?_
        refine z_iconst F (nI 0) dX6_counts_14 rfl ?_
        refine z_iastGN F rfl rfl (Nat.le_of_ble_eq_true rfl) (by omega) dX6_counts_15 ?_
        refine z_weq (w' := [_, _]) rfl ?_
        refine z_iincN F 1 dX6_counts_16 rfl rfl ?_
        refine z_leq (L' := [_, _, _, _]) rfl ?_
        refine z_goto F (tgt := 2) dX6_counts_19 (by decide) ?_
        exact ih (i + 1) _ (by omega) (by omega) (frm_zup hA (by decide)) (fun k hk => by
          rw [zup2_row]
          show (if k = i then _ else A1 67 k) = _
          by_cases q : k = i
          · rw [if_pos q]
          · rw [if_neg q]; exact h0 k (by omega))
  refine z_iconst F (nI 0) dX6_counts_0 rfl ?_
  refine z_istore_n F dX6_counts_1 (Nat.le_of_ble_eq_true rfl) ?_
  refine z_leq (L' := [_, _, _, _]) rfl ?_
  exact zer 577 0 A (by omega) (by omega) frm.rf (fun k hk => by omega)
theorem c_mload_ok (F0 : Nat → Int32) (G : Nat → Int64) (A : Nat → Nat → Int32) (B : Nat → Nat → Int64) (j n d : Nat) (f : Nat → Int32) (a b : Nat) (hj : j < 8) (h : nok n d f) (hs : Slt A j n (nI d) f) (ha : a < n) (hb : b < n) :
    zCtr yX6_load cX6_load 4 (some .int) 3 0 0 [zr 1 0, zi (nI j), zi (nI a), zi (nI b)] [zH, zG F0 G A B] (fun r w => r = some (zi (if cjn n f = true then lall n f n a b else nI 0)) ∧ ∃ F' A', w = [zH, zG F' G A' B] ∧ F' 0 = nI 0 ∧ frm [0, 4, 5] F0 F' ∧ frm [6, 23, 65, 67] A A') zNx := by
  refine z_start (by decide) [some (zr 1 0), some (zi (nI j)), some (zi (nI a)), some (zi (nI b))] rfl (fun _ => Nat.le_of_ble_eq_true rfl) (fun _ => rfl) (fun X F E hno hin => ?_)
  have hn1 := h.n1
  have hn := h.n24
  refine z_aload_n F dX6_load_0 rfl ?_
  refine z_iload_n F dX6_load_1 rfl ?_
  refine z_callV F (c_lays_ok _ _ _ _ j n (nI d) f hj (by omega) hn hs) 1 rfl (lw_V q1732 q1734 qs42 q117 q1735) (by decide +kernel) ⟨Nat.le_of_ble_eq_true rfl, Nat.le_of_ble_eq_true rfl⟩ ⟨by omega, by omega⟩ [0, 1] 2 ⟨rfl, rfl, rfl, ⟨Or.inl rfl, Or.inr rfl, trivial⟩⟩ (fun h => nomatch h) (Nat.le_of_ble_eq_true rfl) ⟨⟨Or.inr trivial, Or.inl rfl, trivial⟩, rfl, rfl, rfl, Nat.le_of_ble_eq_true rfl⟩ rfl zC6 (zat_G0 rfl) rfl dX6_load_2 (fun r_2 w_2 hp => ?_) (fun _ _ h => h.elim)
  obtain ⟨rfl, F1, A1, rfl, f0, f1, f2, f3⟩ := hp
  refine z_weq (w' := [zH, zG _ _ _ _]) rfl ?_
  refine z_seq (S' := zi _ :: _) rfl ?_
  refine z_if_eqB F (tgt := 17) dX6_load_5 (by decide) (fun c_5 => ?_) (fun c_5 => ?_)
  · cases c_5
  · refine z_aload_n F dX6_load_8 rfl ?_
    refine z_iload_n F dX6_load_9 rfl ?_
    refine z_iload_n F dX6_load_10 rfl ?_
    refine z_callV F (c_mhas _ _ _ _ n (nI a) (nI b) f0 f3.1) 2 rfl (lw_V q1740 q1742 qs44 q117 q1743) (by decide +kernel) ⟨Nat.le_of_ble_eq_true rfl, Nat.le_of_ble_eq_true rfl⟩ ⟨by omega, by omega⟩ [0, 1] 2 ⟨rfl, rfl, rfl, ⟨Or.inl rfl, Or.inr rfl, trivial⟩⟩ (fun h => nomatch h) (Nat.le_of_ble_eq_true rfl) ⟨⟨Or.inr trivial, Or.inl rfl, trivial⟩, rfl, rfl, rfl, Nat.le_of_ble_eq_true rfl⟩ rfl zC6 (zat_G0 rfl) rfl dX6_load_11 (fun r_11 w_11 hp => ?_) (fun _ _ h => h.elim)
    obtain ⟨rfl, rfl⟩ := hp
    rw [knB_n ha (by omega), knB_n hb (by omega), Bool.and_self]
    rw [if_pos rfl]
    refine z_weq (w' := [zH, zG _ _ _ _]) rfl ?_
    refine z_seq (S' := zi _ :: _) rfl ?_
    refine z_if_neB F (tgt := 19) dX6_load_14 (by decide) (fun c_14 => ?_) (fun c_14 => ?_)
    · refine z_aload_n F dX6_load_19 rfl ?_
      refine z_callV F (c_mroutes F1 _ _ _ n f hn f3.1 (fun k hk => f3.2.2 k (by omega))) 0 rfl (lw_V q2079 q2081 qs94 q117 q2082) (by decide +kernel) ⟨Nat.le_of_ble_eq_true rfl, Nat.le_of_ble_eq_true rfl⟩ ⟨by omega, by omega⟩ [0, 1] 2 ⟨rfl, rfl, rfl, ⟨Or.inl rfl, Or.inr rfl, trivial⟩⟩ (fun h => nomatch h) (Nat.le_of_ble_eq_true rfl) ⟨⟨Or.inr trivial, Or.inl rfl, trivial⟩, rfl, rfl, rfl, Nat.le_of_ble_eq_true rfl⟩ rfl zC6 (zat_G0 rfl) rfl dX6_load_20 (fun r_20 w_20 hp => ?_) (fun _ _ h => h.elim)
      obtain ⟨rfl, A2, rfl, g1, g2, g3⟩ := hp
      rw [okA_cjn h]
      refine z_weq (w' := [zH, zG _ _ _ _]) rfl ?_
      refine z_seq (S' := zi _ :: _) rfl ?_
      refine z_if_neB F (tgt := 28) dX6_load_23 (by decide) (fun c_23 => ?_) (fun c_23 => ?_)
      · have hcj : conn n f (allB n) := (cjn_conn h.n1 h.n24 (fun a b ha hb => h.sym ha hb)).mp (by simpa using c_23)
        refine z_aload_n F dX6_load_28 rfl ?_
        refine z_callV F (c_mcounts F1 _ _ _ n d f h hcj f3.1 g3) 0 rfl (lw_V q2099 q2101 qs97 q117 q2102) (by decide +kernel) ⟨Nat.le_of_ble_eq_true rfl, Nat.le_of_ble_eq_true rfl⟩ ⟨by omega, by omega⟩ [0, 1] 2 ⟨rfl, rfl, rfl, ⟨Or.inl rfl, Or.inr rfl, trivial⟩⟩ (fun h => nomatch h) (Nat.le_of_ble_eq_true rfl) ⟨⟨Or.inr trivial, Or.inl rfl, trivial⟩, rfl, rfl, rfl, Nat.le_of_ble_eq_true rfl⟩ rfl zC6 (zat_G0 rfl) rfl dX6_load_29 (fun r_29 w_29 hp => ?_) (fun _ _ h => h.elim)
        obtain ⟨rfl, A3, rfl, k1, k2⟩ := hp
        refine z_weq (w' := [zH, zG _ _ _ _]) rfl ?_
        refine z_seq (S' := []) rfl ?_
        refine z_aload_n F dX6_load_32 rfl ?_
        refine z_ma F rfl 67 rfl (Nat.le_of_ble_eq_true rfl) rfl q1547 dX6_load_33 ?_
        refine z_bipush F (nI 24) dX6_load_36 rfl ?_
        refine z_iload_n F dX6_load_38 rfl ?_
        refine z_imulN F dX6_load_39 ?_
        refine z_iload_n F dX6_load_40 rfl ?_
        refine z_iaddN F dX6_load_41 ?_
        refine z_ialdGN F rfl rfl (Nat.le_of_ble_eq_true rfl) (by omega) rfl dX6_load_42 ?_
        exact z_iret F E rfl dX6_load_43 (by omega) (by omega) (⟨by rw [c_23, if_pos rfl, k2 a b ha hb], F1, A3, rfl, f0, f1, (f2.tr g1 (l2 := [6, 23, 65, 67]) (by decide) (by decide)).tr k1 (by decide) (by decide)⟩)
      · refine z_iconst F (nI 0) dX6_load_26 rfl ?_
        exact z_iret F E rfl dX6_load_27 (by omega) (by omega) (⟨by rw [c_23]; rfl, F1, A2, rfl, f0, f1, f2.tr g1 (by decide) (by decide)⟩)
    · cases c_14
end C78
