section
/-! tell: the rounds of WiredNets -/
section C9yj
theorem un_not (x : Int32) (i : Nat) (hi : i < 32) : bt (x ^^^ (-1)) i = !bt x i := bt_not x hi
theorem neg_not {y : Int32} : -y = (y - nI 1) ^^^ (-1) := by
  refine Int32.toBitVec_inj.mp ?_
  rw [Int32.toBitVec_neg, Int32.toBitVec_xor, Int32.toBitVec_sub]
  show -y.toBitVec = (y.toBitVec - 1#32) ^^^ BitVec.allOnes 32
  rw [BitVec.xor_allOnes]
  refine BitVec.eq_of_toNat_eq ?_
  have h := y.toBitVec.isLt
  simp only [BitVec.toNat_neg, BitVec.toNat_not, BitVec.toNat_sub, BitVec.toNat_ofNat]
  omega
theorem neg_low {y : Int32} {i : Nat} (hi : i < 32) (h1 : bt y i = true) (h0 : ∀ j, j < i → bt y j = false) : y &&& (-y) = b1 i := by
  refine b_ext fun j hj => ?_
  rw [b_and, neg_not, bt_not _ hj, bt_pred hi h1 h0 j, bt_b1 hi]
  by_cases q : j < i
  · rw [if_pos q, h0 j q, decide_eq_false (by omega)]; rfl
  · rw [if_neg q]
    by_cases e : j = i
    · rw [e, h1, decide_eq_true rfl]; rfl
    · rw [decide_eq_false e]
      cases bt y j <;> rfl
def rS (f : Nat → Int32) (A T : Int32) (k : Nat) : Int32 := if bt A k = true then f k &&& (T ^^^ (-1)) else nI 0
theorem bt_rS {f : Nat → Int32} {A T : Int32} {k u : Nat} (hu : u < 32) : bt (rS f A T k) u = true ↔ bt A k = true ∧ bt (f k) u = true ∧ bt T u = false := by
  unfold rS
  by_cases q : bt A k = true
  · rw [if_pos q, b_and, bt_not _ hu, Bool.and_eq_true]
    constructor
    · rintro ⟨a, b⟩
      refine ⟨q, a, ?_⟩
      cases h : bt T u with
      | false => rfl
      | true => rw [h] at b; cases b
    · rintro ⟨-, a, b⟩
      exact ⟨a, by rw [b]; rfl⟩
  · rw [if_neg q]
    constructor
    · intro z
      rw [show bt (nI 0) u = false from b_0 u] at z; cases z
    · intro z
      exact absurd z.1 q
theorem gp_rS {n d : Nat} {f : Nat → Int32} (h : nok n d f) {A T C : Int32} {m k : Nat} (hk : k < n) : gP n f A (m + 1) k T C ↔ ((rS f A T k = 0 ∧ gP n f A m (k + 1) T C) ∨ ∃ u, u < 32 ∧ bt (rS f A T k) u = true ∧ gP n f A m (k + 1) (T ||| b1 u) C) := by
  have hn := h.n24
  show (((bt A k = true → ∀ u, u < n → bt (f k) u = true → bt T u = true) ∧ gP n f A m (k + 1) T C) ∨ (bt A k = true ∧ ∃ u, u < n ∧ bt (f k) u = true ∧ bt T u = false ∧ gP n f A m (k + 1) (T ||| b1 u) C)) ↔ _
  constructor
  · rintro (⟨a, b⟩ | ⟨a, u, hu, h1, h2, h3⟩)
    · refine Or.inl ⟨bt_zero.mpr fun i hi => ff_of fun z => ?_, b⟩
      obtain ⟨z1, z2, z3⟩ := (bt_rS hi).mp z
      rw [a z1 i (h.lt hk z2) z2] at z3; cases z3
    · exact Or.inr ⟨u, by omega, (bt_rS (by omega)).mpr ⟨a, h1, h2⟩, h3⟩
  · rintro (⟨a, b⟩ | ⟨u, hu, h1, h3⟩)
    · refine Or.inl ⟨fun hA u hu hf => ?_, b⟩
      cases hT : bt T u with
      | true => rfl
      | false =>
        have := (bt_rS (f := f) (show u < 32 by omega)).mpr ⟨hA, hf, hT⟩
        rw [a, show bt 0 u = false from b_0 u] at this; cases this
    · obtain ⟨z1, z2, z3⟩ := (bt_rS hu).mp h1
      exact Or.inr ⟨z1, u, h.lt hk z2, z2, z3, h3⟩
theorem updB {N : Nat → Bool} {t : Nat} : upd (fun c => bI (N c)) t (vp_nar .boolean (nI 1)) = fun c => bI (if c = t then true else N c) := by
  refine funext fun c => ?_
  show (if c = t then vp_nar .boolean (nI 1) else bI (N c)) = _
  by_cases e : c = t
  · rw [if_pos e, if_pos e]; rfl
  · rw [if_neg e, if_neg e]
abbrev wRd (n : Nat) (d : Int32) (f : Nat → Int32) (Nw Nx : Nat → Bool) : List zE := [zH, zO 14 [zr 2 0, zr 4 0, zr 5 0], eNet 3 (nI n) d, zAi 0 24 f, zAi 2 1024 (fun c => bI (Nw c)), zAi 2 1024 (fun c => bI (Nx c))]
def rgC (n : Nat) (d : Int32) (f : Nat → Int32) (m : Nat) : Prop := ∀ (s k t : Nat) (Nw Nx : Nat → Bool), k + m = n → s < 2 ^ n → t < 2 ^ n →
    zCtr yX14_go cX14_go 6 none m 0 0 [zr 1 0, zi (nI s), zi (nI k), zi (nI t)] (wRd n d f Nw Nx) (fun r w => r = none ∧ ∃ Nx', w = wRd n d f Nw Nx' ∧ ∀ c, c < 2 ^ n → (Nx' c = true ↔ (Nx c = true ∨ gP n f (nI s) m k (nI t) (nI c)))) zNx
theorem c_rgo (n d : Nat) (f : Nat → Int32) (h : nok n d f) (h10 : n ≤ 10) (m : Nat) : rgC n (nI d) f m := by
  have hp2 : 2 ^ n ≤ 2 ^ 10 := Nat.pow_le_pow_right (by decide) h10
  induction m with
  | zero =>
    intro s k t Nw Nx hk hs ht
    refine z_start (by decide) [some (zr 1 0), some (zi (nI s)), some (zi (nI k)), some (zi (nI t)), none, none] rfl (fun _ => Nat.le_of_ble_eq_true rfl) (fun _ => rfl) (fun X F E hno hin => ?_)
    refine z_iload_n F dX14_go_0 rfl ?_
    refine z_aload_n F dX14_go_1 rfl ?_
    refine z_get F zC14 (f := 0) rfl (Nat.le_of_ble_eq_true rfl) q1430 rfl dX14_go_2 ?_
    refine z_getN F zC5 (f := 0) rfl (Nat.le_of_ble_eq_true rfl) q242 rfl dX14_go_5 ?_
    refine z_icmp_neN F (by omega) (by omega) (tgt := 19) dX14_go_8 (by decide) (fun c_8 => ?_) (fun c_8 => ?_)
    · exact absurd (show k = n by omega) c_8
    · refine z_aload_n F dX14_go_11 rfl ?_
      refine z_get F zC14 (f := 2) rfl (Nat.le_of_ble_eq_true rfl) q1432 rfl dX14_go_12 ?_
      refine z_iload_n F dX14_go_15 rfl ?_
      refine z_iconst F (nI 1) dX14_go_16 rfl ?_
      refine z_zastN F rfl (Nat.le_of_ble_eq_true rfl) (by omega) dX14_go_17 ?_
      refine z_weq (w' := [_, _, _, _, _, _]) rfl ?_
      exact z_vret F E rfl dX14_go_18 (by omega) (by omega) (⟨rfl, fun c => if c = t then true else Nx c, by
  show _ = [zH, zO 14 [zr 2 0, zr 4 0, zr 5 0], eNet 3 (nI n) (nI d), zAi 0 24 f, zAi 2 1024 (fun c => bI (Nw c)), zAi 2 1024 (fun c => bI (if c = t then true else Nx c))]
  rw [← updB], fun c hc => by
  show (if c = t then true else Nx c) = true ↔ (Nx c = true ∨ nI c = nI t)
  rw [nI_eq (show c < 2 ^ 31 by omega) (show t < 2 ^ 31 by omega)]
  by_cases e : c = t
  · rw [if_pos e]; exact ⟨fun _ => Or.inr e, fun _ => rfl⟩
  · rw [if_neg e]; exact ⟨Or.inl, fun z => z.elim id (fun z => absurd z e)⟩⟩)
  -- the step
  | succ m rec =>
    intro s k t Nw Nx hk hs ht
    have hkn : k < n := by omega
    refine z_start (by decide) [some (zr 1 0), some (zi (nI s)), some (zi (nI k)), some (zi (nI t)), none, none] rfl (fun _ => Nat.le_of_ble_eq_true rfl) (fun _ => rfl) (fun X F E hno hin => ?_)
    have lp : ∀ (q j : Nat) (y : Int32) (N1 : Nat → Bool), pc32 y < q → upto (rS f (nI s) (nI t) k) j y → (∀ c, c < 2 ^ n → (N1 c = true ↔ (Nx c = true ∨ (rS f (nI s) (nI t) k = 0 ∧ gP n f (nI s) m (k + 1) (nI t) (nI c)) ∨ ∃ u, u < j ∧ u < 32 ∧ bt (rS f (nI s) (nI t) k) u = true ∧ gP n f (nI s) m (k + 1) (nI t ||| b1 u) (nI c)))) → Z X [some (zr 1 0), some (zi (nI s)), some (zi (nI k)), some (zi (nI t)), none, some (zi y)] [] (wRd n (nI d) f Nw N1) 0 0 65 := by
      intro q
      induction q with
      | zero => intro j y N1 hq; omega
      | succ q ih =>
        intro j y N1 hq hu hN
        refine z_iload F dX14_go_65 rfl ?_
        refine z_if_eq F (tgt := 98) dX14_go_67 (by decide) (fun c_67 => ?_) (fun c_67 => ?_)
        · subst c_67
          exact z_vret F E rfl dX14_go_98 (by omega) (by omega) (⟨rfl, N1, rfl, fun c hc => by
  rw [hN c hc, gp_rS h hkn]
  refine or_congr Iff.rfl (or_congr Iff.rfl ⟨fun ⟨u, _, h2, h3, h4⟩ => ⟨u, h2, h3, h4⟩, fun ⟨u, h2, h3, h4⟩ => ⟨u, ?_, h2, h3, h4⟩⟩)
  refine Nat.lt_of_not_le fun z => ?_
  rw [upto_end hu u z h2] at h3; cases h3⟩)
        · obtain ⟨i, hi, hji, hS, hSk, hy1, hy0, hu2, hpc⟩ := upto_low hu c_67
          have hin := (bt_rS hi).mp hS
          have hil := h.lt hkn hin.2.1
          obtain ⟨t', ht1, ht2⟩ := or_lt (s := t) (q := 2 ^ i) h.n24 ht (Nat.pow_lt_pow_right (by decide) hil)
          have hb : b1 i = nI (2 ^ i) := b1_nI (by have := h.n24; omega)
          refine z_aload_n F dX14_go_70 rfl ?_
          refine z_iload_n F dX14_go_71 rfl ?_
          refine z_iload_n F dX14_go_72 rfl ?_
          refine z_iconst F (nI 1) dX14_go_73 rfl ?_
          refine z_iaddN F dX14_go_74 ?_
          refine z_iload_n F dX14_go_75 rfl ?_
          refine z_iload F dX14_go_76 rfl ?_
          refine z_iload F dX14_go_78 rfl ?_
          refine z_ineg F dX14_go_80 ?_
          refine z_iand F dX14_go_81 ?_
          refine z_ior F dX14_go_82 ?_
          refine z_ieq ((by rw [neg_low hi hy1 hy0, hb]; exact ht2.symm : nI t ||| (y &&& (-y)) = nI t')) ?_
          refine z_callV F (rec s (k + 1) t' Nw N1 (by omega) hs ht1) 3 rfl (lw_V q1445 q1447 qs39 q142 q1448) (by decide +kernel) ⟨by omega, Nat.le_of_ble_eq_true rfl⟩ ⟨by omega, by omega⟩ [0, 1, 2, 3, 4, 5] 6 ⟨rfl, rfl, rfl, ⟨Or.inl rfl, Or.inr rfl, Or.inr rfl, Or.inr rfl, Or.inr rfl, Or.inr rfl, trivial⟩⟩ (fun h => nomatch h) (Nat.le_of_ble_eq_true rfl) ⟨⟨Or.inr trivial, Or.inl rfl, Or.inl rfl, Or.inl rfl, Or.inl rfl, Or.inl rfl, trivial⟩, rfl, rfl, rfl, Nat.le_of_ble_eq_true rfl⟩ rfl zC14 rfl rfl dX14_go_83 (fun r_83 w_83 hp => ?_) (fun _ _ h => h.elim)
          obtain ⟨rfl, N2, rfl, hN2⟩ := hp
          refine z_weq (w' := [zH, zO _ [zr _ _, zr _ _, zr _ _], zO _ [zi _, zi _, zr _ _], zAi 0 24 _, zAi 2 1024 _, zAi 2 1024 _]) rfl ?_
          refine z_seq (S' := []) rfl ?_
          refine z_iload F dX14_go_86 rfl ?_
          refine z_iload F dX14_go_88 rfl ?_
          refine z_iconst F (nI 1) dX14_go_90 rfl ?_
          refine z_isub F dX14_go_91 ?_
          refine z_iand F dX14_go_92 ?_
          refine z_istore F dX14_go_93 (Nat.le_of_ble_eq_true rfl) ?_
          refine z_leq (L' := [_, _, _, _, _, _]) rfl ?_
          refine z_goto F (tgt := 65) dX14_go_95 (by decide) ?_
          refine ih (i + 1) _ N2 (by omega) hu2 (fun c hc => ?_)
          rw [hN2 c hc, hN c hc, ht2, ← hb]
          constructor
          · rintro ((a | a | ⟨u, a1, a2, a3, a4⟩) | a)
            · exact Or.inl a
            · exact Or.inr (Or.inl a)
            · exact Or.inr (Or.inr ⟨u, by omega, a2, a3, a4⟩)
            · exact Or.inr (Or.inr ⟨i, by omega, hi, hS, a⟩)
          · rintro (a | a | ⟨u, a1, a2, a3, a4⟩)
            · exact Or.inl (Or.inl a)
            · exact Or.inl (Or.inr (Or.inl a))
            · by_cases e : u = i
              · rw [e] at a4; exact Or.inr a4
              · refine Or.inl (Or.inr (Or.inr ⟨u, ?_, a2, a3, a4⟩))
                refine Nat.lt_of_not_le fun z => ?_
                rw [hSk u z (by omega)] at a3; cases a3
    have at45 : ∀ S0, S0 = rS f (nI s) (nI t) k → Z X [some (zr 1 0), some (zi (nI s)), some (zi (nI k)), some (zi (nI t)), none, none] [zi S0] (wRd n (nI d) f Nw Nx) 0 0 45 := by
      intro S0 hS0
      have go : ∀ N1 : Nat → Bool, (∀ c, c < 2 ^ n → (N1 c = true ↔ (Nx c = true ∨ (S0 = 0 ∧ gP n f (nI s) m (k + 1) (nI t) (nI c))))) → Z X [some (zr 1 0), some (zi (nI s)), some (zi (nI k)), some (zi (nI t)), none, some (zi S0)] [] (wRd n (nI d) f Nw N1) 0 0 65 := by
        intro N1 hN1
        subst hS0
        refine lp (pc32 (rS f (nI s) (nI t) k) + 1) 0 _ N1 (by omega) (upto_0 _) (fun c hc => ?_)
        rw [hN1 c hc]
        exact ⟨fun z => z.elim Or.inl (fun z => Or.inr (Or.inl z)), fun z => z.elim Or.inl (fun z => z.elim Or.inr (fun ⟨u, a, _⟩ => absurd a (by omega)))⟩
      refine z_istore F dX14_go_45 (Nat.le_of_ble_eq_true rfl) ?_
      refine z_leq (L' := [_, _, _, _, _, _]) rfl ?_
      refine z_iload F dX14_go_47 rfl ?_
      refine z_if_ne F (tgt := 61) dX14_go_49 (by decide) (fun c_49 => ?_) (fun c_49 => ?_)
      · refine z_iload F dX14_go_61 rfl ?_
        refine z_istore F dX14_go_63 (Nat.le_of_ble_eq_true rfl) ?_
        refine z_leq (L' := [_, _, _, _, _, _]) rfl ?_
        refine z_loc _ ?_ (go Nx (fun c hc => ⟨Or.inl, fun z => z.elim id (fun z => absurd z.1 c_49)⟩))
        exact ⟨rfl, rfl, rfl, rfl, rfl, trivial⟩
      · refine z_aload_n F dX14_go_52 rfl ?_
        refine z_iload_n F dX14_go_53 rfl ?_
        refine z_iload_n F dX14_go_54 rfl ?_
        refine z_iconst F (nI 1) dX14_go_55 rfl ?_
        refine z_iaddN F dX14_go_56 ?_
        refine z_iload_n F dX14_go_57 rfl ?_
        refine z_callV F (rec s (k + 1) t Nw Nx (by omega) hs ht) 3 rfl (lw_V q1445 q1447 qs39 q142 q1448) (by decide +kernel) ⟨by omega, Nat.le_of_ble_eq_true rfl⟩ ⟨by omega, by omega⟩ [0, 1, 2, 3, 4, 5] 6 ⟨rfl, rfl, rfl, ⟨Or.inl rfl, Or.inr rfl, Or.inr rfl, Or.inr rfl, Or.inr rfl, Or.inr rfl, trivial⟩⟩ (fun h => nomatch h) (Nat.le_of_ble_eq_true rfl) ⟨⟨Or.inr trivial, Or.inl rfl, Or.inl rfl, Or.inl rfl, Or.inl rfl, Or.inl rfl, trivial⟩, rfl, rfl, rfl, Nat.le_of_ble_eq_true rfl⟩ rfl zC14 rfl rfl dX14_go_58 (fun r_58 w_58 hp => ?_) (fun _ _ h => h.elim)
        obtain ⟨rfl, N2, rfl, hN2⟩ := hp
        refine z_weq (w' := [zH, zO _ [zr _ _, zr _ _, zr _ _], zO _ [zi _, zi _, zr _ _], zAi 0 24 _, zAi 2 1024 _, zAi 2 1024 _]) rfl ?_
        refine z_seq (S' := []) rfl ?_
        refine z_iload F dX14_go_61 rfl ?_
        refine z_istore F dX14_go_63 (Nat.le_of_ble_eq_true rfl) ?_
        refine z_leq (L' := [_, _, _, _, _, _]) rfl ?_
        refine z_loc _ ?_ (go N2 (fun c hc => by rw [hN2 c hc]; exact or_congr Iff.rfl ⟨fun z => ⟨c_49, z⟩, fun z => z.2⟩))
        exact ⟨rfl, rfl, rfl, rfl, rfl, trivial⟩
    refine z_iload_n F dX14_go_0 rfl ?_
    refine z_aload_n F dX14_go_1 rfl ?_
    refine z_get F zC14 (f := 0) rfl (Nat.le_of_ble_eq_true rfl) q1430 rfl dX14_go_2 ?_
    refine z_getN F zC5 (f := 0) rfl (Nat.le_of_ble_eq_true rfl) q242 rfl dX14_go_5 ?_
    refine z_icmp_neN F (by omega) (by omega) (tgt := 19) dX14_go_8 (by decide) (fun c_8 => ?_) (fun c_8 => ?_)
    · refine z_iload_n F dX14_go_19 rfl ?_
      refine z_iload_n F dX14_go_20 rfl ?_
      refine z_ishr F dX14_go_21 ?_
      refine z_iconst F (nI 1) dX14_go_22 rfl ?_
      refine z_iandB F (by omega) dX14_go_23 ?_
      refine z_iconst F (nI 1) dX14_go_24 rfl ?_
      refine z_icmp_neB F (tgt := 44) dX14_go_25 (by decide) (fun c_25 => ?_) (fun c_25 => ?_)
      · refine z_iconst F (nI 0) dX14_go_44 rfl ?_
        exact at45 _ (by rw [rS, if_neg (by rw [c_25]; decide)])
      · refine z_aload_n F dX14_go_28 rfl ?_
        refine z_get F zC14 (f := 0) rfl (Nat.le_of_ble_eq_true rfl) q1430 rfl dX14_go_29 ?_
        refine z_getN F zC5 (f := 2) rfl (Nat.le_of_ble_eq_true rfl) q251 rfl dX14_go_32 ?_
        refine z_iload_n F dX14_go_35 rfl ?_
        refine z_ialdN F rfl (Nat.le_of_ble_eq_true rfl) (by omega) rfl dX14_go_36 ?_
        refine z_iload_n F dX14_go_37 rfl ?_
        refine z_iconst F (-1) dX14_go_38 rfl ?_
        refine z_ixor F dX14_go_39 ?_
        refine z_iand F dX14_go_40 ?_
        refine z_goto F (tgt := 45) dX14_go_41 (by decide) ?_
        exact at45 _ (by rw [rS, if_pos c_25])
    · exact absurd c_8 (by omega)
end C9yj
end
section
/-! tell: WiredNets' operation -/
section C9yk
theorem c_rdInit (d : Int32) (n : Nat) (f : Nat → Int32) : zCtr yX14_init cX14_init 2 none 1 1 1024 [zr 1 0, zr 2 0] [zH, zO 14 [zn, zn, zn], eNet 3 (nI n) d, zAi 0 24 f] (fun r w => r = none ∧ w = [zH, zO 14 [zr 2 0, zr 4 0, zn], eNet 3 (nI n) d, zAi 0 24 f, zAi 2 1024 (fun _ => 0)]) zNx := by
  refine z_start (by decide) [some (zr 1 0), some (zr 2 0)] rfl (fun _ => Nat.le_of_ble_eq_true rfl) (fun _ => rfl) (fun X F E hno hin => ?_)
  refine z_aload_n F dX14_init_0 rfl ?_
  refine z_objInit F q1429 q149 q150 dX14_init_1 (Nat.le_of_ble_eq_true rfl) rfl (Nat.le_of_ble_eq_true rfl) ?_
  refine z_aload_n F dX14_init_4 rfl ?_
  refine z_sipush F (nI 1024) dX14_init_5 rfl ?_
  refine z_newaZ F 1024 4 q264 (nI_pos (by omega)) (zcl_n (by omega)) (by omega) rfl (Nat.le_of_ble_eq_true rfl) ⟨trivial, rfl, rfl, trivial, trivial⟩ rfl rfl ⟨by omega, by omega⟩ dX14_init_8 ?_
  refine z_weq (w' := [_, _, _, _, _]) rfl ?_
  refine z_put F zC14 (f := 1) rfl (Nat.le_of_ble_eq_true rfl) q1431 rfl (fun _ => rfl) (fun _ => rfl) (Nat.le_of_ble_eq_true rfl) dX14_init_10 ?_
  refine z_weq (w' := [_, zO _ [_, _, _], _, _, _]) rfl ?_
  refine z_aload_n F dX14_init_13 rfl ?_
  refine z_aload_n F dX14_init_14 rfl ?_
  refine z_putF F zC14 (f := 0) rfl (Nat.le_of_ble_eq_true rfl) q1430 rfl hin rfl (fun _ => rfl) (fun _ => rfl) (Nat.le_of_ble_eq_true rfl) dX14_init_15 ?_
  refine z_weq (w' := [_, zO _ [_, _, _], _, _, _]) rfl ?_
  exact z_vret F E rfl dX14_init_18 (by omega) (by omega) (⟨rfl, rfl⟩)
theorem two_lt {v n : Nat} (h : v < n) : 2 ^ v < 2 ^ n := Nat.pow_lt_pow_right (by decide) h
theorem c_rdRun (n d v : Nat) (f : Nat → Int32) (h : nok n d f) (h10 : n ≤ 10) (hv : v < n) (hc : conn n f (allB n)) : zCtr yX14_run cX14_run 4 (some .int) 12 25 25600 [zr 1 0, zi (nI v)] [zH, zO 14 [zr 2 0, zr 4 0, zn], eNet 3 (nI n) (nI d), zAi 0 24 f, zAi 2 1024 (fun _ => 0)] (fun r w => ∃ ro, ro ≤ 24 ∧ r = some (zi (nI ro)) ∧ (∀ r', r' < ro → ¬ nF n f v r' (2 ^ n - 1)) ∧ nF n f v ro (2 ^ n - 1) ∧ w = [zH, zH, eNet 3 (nI n) (nI d), zAi 0 24 f, zH]) zNx := by
  refine z_start (by decide) [some (zr 1 0), some (zi (nI v)), none, none] rfl (fun _ => Nat.le_of_ble_eq_true rfl) (fun _ => rfl) (fun X F E hno hin => ?_)
  have hp2 : 2 ^ n ≤ 2 ^ 10 := Nat.pow_le_pow_right (by decide) h10
  have h24 := h.n24
  have hp1 : 1 ≤ 2 ^ n := Nat.one_le_two_pow
  have hv2 : 2 ^ v < 2 ^ n := two_lt hv
  obtain ⟨r0, hr0, hm0⟩ := tl_ex h hc hv
  have hn0 := mN h hv hm0
  have eal : allB n = nI (2 ^ n - 1) := al_nI h24
  have hle : ∀ ro, (∀ r', r' < ro → ¬ nF n f v r' (2 ^ n - 1)) → ro ≤ 24 := fun ro hlo => Nat.le_of_not_lt fun z => hlo r0 (by omega) hn0
  have hnx : ∀ (ro : Nat) (Nw N1 : Nat → Bool), (∀ c, c < 2 ^ n → (Nw c = true ↔ nF n f v ro c)) → (∀ c, c < 2 ^ n → (N1 c = true ↔ ∃ u, u < 2 ^ n ∧ Nw u = true ∧ gP n f (nI u) n 0 (nI u) (nI c))) → ∀ c, c < 2 ^ n → (N1 c = true ↔ nF n f v (ro + 1) c) := by
    intro ro Nw N1 h1 h2 c hcl
    rw [h2 c hcl]
    constructor
    · rintro ⟨u, a, b, e⟩
      exact ⟨hcl, u, a, (h1 u a).mp b, e⟩
    · rintro ⟨-, u, a, b, e⟩
      exact ⟨u, a, (h1 u a).mpr b, e⟩
  have step : ∀ (s : Nat) (Nw N1 N2 : Nat → Bool), (∀ c, c < 2 ^ n → (N1 c = true ↔ ∃ u, u < s ∧ Nw u = true ∧ gP n f (nI u) n 0 (nI u) (nI c))) → (Nw s = true → ∀ c, c < 2 ^ n → (N2 c = true ↔ (N1 c = true ∨ gP n f (nI s) n 0 (nI s) (nI c)))) → (Nw s = false → N2 = N1) → ∀ c, c < 2 ^ n → (N2 c = true ↔ ∃ u, u < s + 1 ∧ Nw u = true ∧ gP n f (nI u) n 0 (nI u) (nI c)) := by
    intro s Nw N1 N2 h1 h2 h3 c hcl
    cases hs : Nw s with
    | false =>
      rw [h3 hs, h1 c hcl]
      constructor
      · rintro ⟨u, a, b, e⟩; exact ⟨u, by omega, b, e⟩
      · rintro ⟨u, a, b, e⟩
        by_cases q : u = s
        · rw [q, hs] at b; cases b
        · exact ⟨u, by omega, b, e⟩
    | true =>
      rw [h2 hs c hcl, h1 c hcl]
      constructor
      · rintro (⟨u, a, b, e⟩ | e)
        · exact ⟨u, by omega, b, e⟩
        · exact ⟨s, by omega, hs, e⟩
      · rintro ⟨u, a, b, e⟩
        by_cases q : u = s
        · rw [q] at e; exact Or.inr e
        · exact Or.inl ⟨u, by omega, b, e⟩
  have lp : ∀ (q ro : Nat) (Nw : Nat → Bool), 25 - ro < q → (∀ r', r' < ro → ¬ nF n f v r' (2 ^ n - 1)) → (∀ c, c < 2 ^ n → (Nw c = true ↔ nF n f v ro c)) → Z X [some (zr 1 0), some (zi (nI v)), some (zi (nI ro)), none] [] [zH, zO 14 [zr 2 0, zr 5 0, zr 5 0], eNet 3 (nI n) (nI d), zAi 0 24 f, zH, zAi 2 1024 (fun c => bI (Nw c))] ro (1024 * ro) 11 := by
    intro q
    induction q with
    | zero => intro ro Nw hq hlo; have := hle ro hlo; omega
    | succ q ih =>
      intro ro Nw hq hlo hNw
      have h25 := hle ro hlo
      have inn : ∀ (p s : Nat) (N1 : Nat → Bool), 2 ^ n - s < p → s ≤ 2 ^ n → (¬ nF n f v ro (2 ^ n - 1)) → (∀ c, c < 2 ^ n → (N1 c = true ↔ ∃ u, u < s ∧ Nw u = true ∧ gP n f (nI u) n 0 (nI u) (nI c))) → Z X [some (zr 1 0), some (zi (nI v)), some (zi (nI ro)), some (zi (nI s))] [] [zH, zO 14 [zr 2 0, zr 5 0, zr 6 0], eNet 3 (nI n) (nI d), zAi 0 24 f, zH, zAi 2 1024 (fun c => bI (Nw c)), zAi 2 1024 (fun c => bI (N1 c))] (ro + 1) (1024 * ro + 1024) 37 := by
        intro p
        induction p with
        | zero => intro s N1 hp; omega
        | succ p ih2 =>
          intro s N1 hp hs hnf hN1
          have stp := step s Nw N1
          refine z_iload_n F dX14_run_37 rfl ?_
          refine z_aload_n F dX14_run_38 rfl ?_
          refine z_get F zC14 (f := 0) rfl (Nat.le_of_ble_eq_true rfl) q1430 rfl dX14_run_39 ?_
          refine z_callV F (c_all n (nI d) h24) 0 rfl (lw_V q1444 q800 q801 q116 q802) (by decide +kernel) ⟨Nat.le_of_ble_eq_true rfl, Nat.le_of_ble_eq_true rfl⟩ ⟨by omega, by omega⟩ [0, 2, 3] 7 ⟨rfl, rfl, rfl, ⟨Or.inl rfl, Or.inr rfl, Or.inl rfl, trivial⟩⟩ (fun h => nomatch h) (Nat.le_of_ble_eq_true rfl) ⟨⟨Or.inr trivial, Or.inr rfl, Or.inl rfl, Or.inr trivial, Or.inr trivial, Or.inr trivial, Or.inr trivial, trivial⟩, rfl, rfl, rfl, Nat.le_of_ble_eq_true rfl⟩ rfl zC5 rfl rfl dX14_run_42 (fun r_42 w_42 hp => ?_) (fun _ _ h => h.elim)
          obtain ⟨rfl, rfl⟩ := hp
          refine z_ieq eal ?_
          refine z_weq (w' := [zH, zO _ [zr _ _, zr _ _, zr _ _], zO _ [zi _, zi _, zr _ _], zAi 0 24 _, zH, zAi 2 1024 _, zAi 2 1024 _]) rfl ?_
          refine z_seq (S' := zi _ :: _) rfl ?_
          refine z_icmp_gtN F (by omega) (by omega) (tgt := 70) dX14_run_45 (by decide) (fun c_45 => ?_) (fun c_45 => ?_)
          · have es : s = 2 ^ n := by omega
            subst es
            have hlt : ro + 1 ≤ 24 := hle (ro + 1) (fun r' hr => by
              by_cases e : r' = ro
              · rw [e]; exact hnf
              · exact hlo r' (by omega))
            refine z_aload_n F dX14_run_70 rfl ?_
            refine z_aload_n F dX14_run_71 rfl ?_
            refine z_get F zC14 (f := 2) rfl (Nat.le_of_ble_eq_true rfl) q1432 rfl dX14_run_72 ?_
            refine z_put F zC14 (f := 1) rfl (Nat.le_of_ble_eq_true rfl) q1431 rfl (fun _ => rfl) (fun _ => rfl) (Nat.le_of_ble_eq_true rfl) dX14_run_75 ?_
            refine z_weq (w' := [_, zO _ [_, _, _], _, _, _, _, _]) rfl ?_
            refine z_loc [some (zr 1 0), some (zi (nI v)), some (zi (nI ro)), none] ⟨rfl, rfl, rfl, trivial⟩ ?_
            refine z_iincN F 1 dX14_run_78 rfl rfl ?_
            refine z_leq (L' := [_, _, _, _]) rfl ?_
            refine z_goto F (tgt := 11) dX14_run_81 (by decide) ?_
            refine z_ren F 5 6 (w' := [zH, zO 14 [zr 2 0, zr 5 0, zr 5 0], eNet 3 (nI n) (nI d), zAi 0 24 f, zH, zAi 2 1024 (fun c => bI (N1 c))]) [some (zr 1 0), some (zi (nI v)), some (zi (nI (ro + 1))), none] [] (zAi 2 1024 (fun c => bI (Nw c))) (Nat.le_of_ble_eq_true rfl) rfl rfl rfl ⟨trivial, trivial, trivial, trivial, trivial, trivial, trivial⟩ (Nat.le_of_ble_eq_true rfl) rfl rfl ?_
            exact ih (ro + 1) N1 (by omega) (fun r' hr => by
              by_cases e : r' = ro
              · rw [e]; exact hnf
              · exact hlo r' (by omega)) (hnx ro Nw N1 hNw hN1)
          · refine z_aload_n F dX14_run_48 rfl ?_
            refine z_get F zC14 (f := 1) rfl (Nat.le_of_ble_eq_true rfl) q1431 rfl dX14_run_49 ?_
            refine z_iload_n F dX14_run_52 rfl ?_
            refine z_zaldN F rfl (Nat.le_of_ble_eq_true rfl) (by omega) rfl dX14_run_53 ?_
            refine z_if_eqB F (tgt := 64) dX14_run_54 (by decide) (fun c_54 => ?_) (fun c_54 => ?_)
            · refine z_iincN F 1 dX14_run_64 rfl rfl ?_
              refine z_leq (L' := [_, _, _, _]) rfl ?_
              refine z_goto F (tgt := 37) dX14_run_67 (by decide) ?_
              exact ih2 (s + 1) N1 (by omega) (by omega) hnf (stp N1 hN1 (fun z => by rw [c_54] at z; cases z) (fun _ => rfl))
            · refine z_aload_n F dX14_run_57 rfl ?_
              refine z_iload_n F dX14_run_58 rfl ?_
              refine z_iconst F (nI 0) dX14_run_59 rfl ?_
              refine z_iload_n F dX14_run_60 rfl ?_
              refine z_callV F (c_rgo n d f h h10 n s 0 s Nw N1 (by omega) (by omega) (by omega)) 3 rfl (lw_V q1445 q1447 qs39 q142 q1448) (by decide +kernel) ⟨by omega, Nat.le_of_ble_eq_true rfl⟩ ⟨by omega, by omega⟩ [0, 1, 2, 3, 5, 6] 7 ⟨rfl, rfl, rfl, ⟨Or.inl rfl, Or.inr rfl, Or.inr rfl, Or.inr rfl, Or.inr rfl, Or.inr rfl, trivial⟩⟩ (fun h => nomatch h) (Nat.le_of_ble_eq_true rfl) ⟨⟨Or.inr trivial, Or.inl rfl, Or.inl rfl, Or.inl rfl, Or.inr trivial, Or.inl rfl, Or.inl rfl, trivial⟩, rfl, rfl, rfl, Nat.le_of_ble_eq_true rfl⟩ rfl zC14 rfl rfl dX14_run_61 (fun r_61 w_61 hp => ?_) (fun _ _ h => h.elim)
              obtain ⟨rfl, N2, rfl, hN2⟩ := hp
              refine z_weq (w' := [zH, zO _ [zr _ _, zr _ _, zr _ _], zO _ [zi _, zi _, zr _ _], zAi 0 24 _, zH, zAi 2 1024 _, zAi 2 1024 _]) rfl ?_
              refine z_seq (S' := []) rfl ?_
              refine z_iincN F 1 dX14_run_64 rfl rfl ?_
              refine z_leq (L' := [_, _, _, _]) rfl ?_
              refine z_goto F (tgt := 37) dX14_run_67 (by decide) ?_
              exact ih2 (s + 1) N2 (by omega) (by omega) hnf (stp N2 hN1 (fun _ => hN2) (fun z => by rw [c_54] at z; cases z))
      refine z_aload_n F dX14_run_11 rfl ?_
      refine z_get F zC14 (f := 1) rfl (Nat.le_of_ble_eq_true rfl) q1431 rfl dX14_run_12 ?_
      refine z_aload_n F dX14_run_15 rfl ?_
      refine z_get F zC14 (f := 0) rfl (Nat.le_of_ble_eq_true rfl) q1430 rfl dX14_run_16 ?_
      refine z_callV F (c_all n (nI d) h24) 0 rfl (lw_V q1444 q800 q801 q116 q802) (by decide +kernel) ⟨Nat.le_of_ble_eq_true rfl, Nat.le_of_ble_eq_true rfl⟩ ⟨by omega, by omega⟩ [0, 2, 3] 6 ⟨rfl, rfl, rfl, ⟨Or.inl rfl, Or.inr rfl, Or.inl rfl, trivial⟩⟩ (fun h => nomatch h) (Nat.le_of_ble_eq_true rfl) ⟨⟨Or.inr trivial, Or.inr rfl, Or.inl rfl, Or.inr trivial, Or.inr trivial, Or.inr trivial, trivial⟩, rfl, rfl, rfl, Nat.le_of_ble_eq_true rfl⟩ rfl zC5 rfl rfl dX14_run_19 (fun r_19 w_19 hp => ?_) (fun _ _ h => h.elim)
      obtain ⟨rfl, rfl⟩ := hp
      refine z_ieq eal ?_
      refine z_weq (w' := [zH, zO _ [zr _ _, zr _ _, zr _ _], zO _ [zi _, zi _, zr _ _], zAi 0 24 _, zH, zAi 2 1024 _]) rfl ?_
      refine z_seq (S' := zi _ :: _) rfl ?_
      refine z_zaldN F rfl (Nat.le_of_ble_eq_true rfl) (by omega) rfl dX14_run_22 ?_
      refine z_if_neB F (tgt := 84) dX14_run_23 (by decide) (fun c_23 => ?_) (fun c_23 => ?_)
      · refine z_forget F 1 (w' := [zH, zH, zO _ [zi _, zi _, zr _ _], zAi 0 24 _, zH, zAi 2 1024 _]) rfl ?_
        refine z_forget F 4 (w' := [zH, zH, zO _ [zi _, zi _, zr _ _], zAi 0 24 _, zH, zAi 2 1024 _]) rfl ?_
        refine z_take F 5 [zH, zH, zO _ [zi _, zi _, zr _ _], zAi 0 24 _, zH] rfl ?_
        refine z_iload_n F dX14_run_84 rfl ?_
        exact z_iret F E rfl dX14_run_85 (by omega) (by omega) (⟨ro, h25, rfl, hlo, (hNw _ (by omega)).mp c_23, rfl⟩)
      · refine z_aload_n F dX14_run_26 rfl ?_
        refine z_sipush F (nI 1024) dX14_run_27 rfl ?_
        refine z_newaZ F 1024 6 q264 (nI_pos (by omega)) (zcl_n (by omega)) (by omega) rfl (Nat.le_of_ble_eq_true rfl) ⟨trivial, rfl, rfl, trivial, trivial, trivial, trivial⟩ rfl rfl ⟨by omega, by omega⟩ dX14_run_30 ?_
        refine z_weq (w' := [_, _, _, _, _, _, _]) rfl ?_
        refine z_put F zC14 (f := 2) rfl (Nat.le_of_ble_eq_true rfl) q1432 rfl (fun _ => rfl) (fun _ => rfl) (Nat.le_of_ble_eq_true rfl) dX14_run_32 ?_
        refine z_weq (w' := [_, zO _ [_, _, _], _, _, _, _, _]) rfl ?_
        refine z_iconst F (nI 0) dX14_run_35 rfl ?_
        refine z_istore_n F dX14_run_36 (Nat.le_of_ble_eq_true rfl) ?_
        refine z_leq (L' := [_, _, _, _]) rfl ?_
        exact inn (2 ^ n + 1) 0 (fun _ => false) (by omega) (by omega) (fun z => by rw [(hNw _ (by omega)).mpr z] at c_23; cases c_23) (fun c hcl => ⟨fun z => (by cases z), fun ⟨u, a, _⟩ => absurd a (by omega)⟩)
  have fst : ∀ (Nw : Nat → Bool), (∀ c, c < 2 ^ n → (Nw c = true ↔ nF n f v 0 c)) → Z X [some (zr 1 0), some (zi (nI v)), some (zi (nI 0)), none] [] [zH, zO 14 [zr 2 0, zr 4 0, zn], eNet 3 (nI n) (nI d), zAi 0 24 f, zAi 2 1024 (fun c => bI (Nw c))] 0 0 11 := by
    intro Nw hNw
    have inn : ∀ (p s : Nat) (N1 : Nat → Bool), 2 ^ n - s < p → s ≤ 2 ^ n → (¬ nF n f v 0 (2 ^ n - 1)) → (∀ c, c < 2 ^ n → (N1 c = true ↔ ∃ u, u < s ∧ Nw u = true ∧ gP n f (nI u) n 0 (nI u) (nI c))) → Z X [some (zr 1 0), some (zi (nI v)), some (zi (nI 0)), some (zi (nI s))] [] [zH, zO 14 [zr 2 0, zr 4 0, zr 5 0], eNet 3 (nI n) (nI d), zAi 0 24 f, zAi 2 1024 (fun c => bI (Nw c)), zAi 2 1024 (fun c => bI (N1 c))] 1 1024 37 := by
      intro p
      induction p with
      | zero => intro s N1 hp; omega
      | succ p ih2 =>
        intro s N1 hp hs hnf hN1
        have stp := step s Nw N1
        refine z_iload_n F dX14_run_37 rfl ?_
        refine z_aload_n F dX14_run_38 rfl ?_
        refine z_get F zC14 (f := 0) rfl (Nat.le_of_ble_eq_true rfl) q1430 rfl dX14_run_39 ?_
        refine z_callV F (c_all n (nI d) h24) 0 rfl (lw_V q1444 q800 q801 q116 q802) (by decide +kernel) ⟨Nat.le_of_ble_eq_true rfl, Nat.le_of_ble_eq_true rfl⟩ ⟨by omega, by omega⟩ [0, 2, 3] 6 ⟨rfl, rfl, rfl, ⟨Or.inl rfl, Or.inr rfl, Or.inl rfl, trivial⟩⟩ (fun h => nomatch h) (Nat.le_of_ble_eq_true rfl) ⟨⟨Or.inr trivial, Or.inr rfl, Or.inl rfl, Or.inr trivial, Or.inr trivial, Or.inr trivial, trivial⟩, rfl, rfl, rfl, Nat.le_of_ble_eq_true rfl⟩ rfl zC5 rfl rfl dX14_run_42 (fun r_42 w_42 hp => ?_) (fun _ _ h => h.elim)
        obtain ⟨rfl, rfl⟩ := hp
        refine z_ieq eal ?_
        refine z_weq (w' := [zH, zO _ [zr _ _, zr _ _, zr _ _], zO _ [zi _, zi _, zr _ _], zAi 0 24 _, zAi 2 1024 _, zAi 2 1024 _]) rfl ?_
        refine z_seq (S' := zi _ :: _) rfl ?_
        refine z_icmp_gtN F (by omega) (by omega) (tgt := 70) dX14_run_45 (by decide) (fun c_45 => ?_) (fun c_45 => ?_)
        · have es : s = 2 ^ n := by omega
          subst es
          refine z_aload_n F dX14_run_70 rfl ?_
          refine z_aload_n F dX14_run_71 rfl ?_
          refine z_get F zC14 (f := 2) rfl (Nat.le_of_ble_eq_true rfl) q1432 rfl dX14_run_72 ?_
          refine z_put F zC14 (f := 1) rfl (Nat.le_of_ble_eq_true rfl) q1431 rfl (fun _ => rfl) (fun _ => rfl) (Nat.le_of_ble_eq_true rfl) dX14_run_75 ?_
          refine z_weq (w' := [_, zO _ [_, _, _], _, _, _, _]) rfl ?_
          refine z_loc [some (zr 1 0), some (zi (nI v)), some (zi (nI 0)), none] ⟨rfl, rfl, rfl, trivial⟩ ?_
          refine z_iincN F 1 dX14_run_78 rfl rfl ?_
          refine z_leq (L' := [_, _, _, _]) rfl ?_
          refine z_goto F (tgt := 11) dX14_run_81 (by decide) ?_
          refine z_forget F 4 (w' := [zH, zO 14 [zr 2 0, zr 5 0, zr 5 0], eNet 3 (nI n) (nI d), zAi 0 24 f, zH, zAi 2 1024 (fun c => bI (N1 c))]) rfl ?_
          exact lp 26 1 N1 (by omega) (fun r' hr => by
            rw [show r' = 0 by omega]; exact hnf) (hnx 0 Nw N1 hNw hN1)
        · refine z_aload_n F dX14_run_48 rfl ?_
          refine z_get F zC14 (f := 1) rfl (Nat.le_of_ble_eq_true rfl) q1431 rfl dX14_run_49 ?_
          refine z_iload_n F dX14_run_52 rfl ?_
          refine z_zaldN F rfl (Nat.le_of_ble_eq_true rfl) (by omega) rfl dX14_run_53 ?_
          refine z_if_eqB F (tgt := 64) dX14_run_54 (by decide) (fun c_54 => ?_) (fun c_54 => ?_)
          · refine z_iincN F 1 dX14_run_64 rfl rfl ?_
            refine z_leq (L' := [_, _, _, _]) rfl ?_
            refine z_goto F (tgt := 37) dX14_run_67 (by decide) ?_
            exact ih2 (s + 1) N1 (by omega) (by omega) hnf (stp N1 hN1 (fun z => by rw [c_54] at z; cases z) (fun _ => rfl))
          · refine z_aload_n F dX14_run_57 rfl ?_
            refine z_iload_n F dX14_run_58 rfl ?_
            refine z_iconst F (nI 0) dX14_run_59 rfl ?_
            refine z_iload_n F dX14_run_60 rfl ?_
            refine z_callV F (c_rgo n d f h h10 n s 0 s Nw N1 (by omega) (by omega) (by omega)) 3 rfl (lw_V q1445 q1447 qs39 q142 q1448) (by decide +kernel) ⟨by omega, Nat.le_of_ble_eq_true rfl⟩ ⟨by omega, by omega⟩ [0, 1, 2, 3, 4, 5] 6 ⟨rfl, rfl, rfl, ⟨Or.inl rfl, Or.inr rfl, Or.inr rfl, Or.inr rfl, Or.inr rfl, Or.inr rfl, trivial⟩⟩ (fun h => nomatch h) (Nat.le_of_ble_eq_true rfl) ⟨⟨Or.inr trivial, Or.inl rfl, Or.inl rfl, Or.inl rfl, Or.inl rfl, Or.inl rfl, trivial⟩, rfl, rfl, rfl, Nat.le_of_ble_eq_true rfl⟩ rfl zC14 rfl rfl dX14_run_61 (fun r_61 w_61 hp => ?_) (fun _ _ h => h.elim)
            obtain ⟨rfl, N2, rfl, hN2⟩ := hp
            refine z_weq (w' := [zH, zO _ [zr _ _, zr _ _, zr _ _], zO _ [zi _, zi _, zr _ _], zAi 0 24 _, zAi 2 1024 _, zAi 2 1024 _]) rfl ?_
            refine z_seq (S' := []) rfl ?_
            refine z_iincN F 1 dX14_run_64 rfl rfl ?_
            refine z_leq (L' := [_, _, _, _]) rfl ?_
            refine z_goto F (tgt := 37) dX14_run_67 (by decide) ?_
            exact ih2 (s + 1) N2 (by omega) (by omega) hnf (stp N2 hN1 (fun _ => hN2) (fun z => by rw [c_54] at z; cases z))
    refine z_aload_n F dX14_run_11 rfl ?_
    refine z_get F zC14 (f := 1) rfl (Nat.le_of_ble_eq_true rfl) q1431 rfl dX14_run_12 ?_
    refine z_aload_n F dX14_run_15 rfl ?_
    refine z_get F zC14 (f := 0) rfl (Nat.le_of_ble_eq_true rfl) q1430 rfl dX14_run_16 ?_
    refine z_callV F (c_all n (nI d) h24) 0 rfl (lw_V q1444 q800 q801 q116 q802) (by decide +kernel) ⟨Nat.le_of_ble_eq_true rfl, Nat.le_of_ble_eq_true rfl⟩ ⟨by omega, by omega⟩ [0, 2, 3] 5 ⟨rfl, rfl, rfl, ⟨Or.inl rfl, Or.inr rfl, Or.inl rfl, trivial⟩⟩ (fun h => nomatch h) (Nat.le_of_ble_eq_true rfl) ⟨⟨Or.inr trivial, Or.inr rfl, Or.inl rfl, Or.inr trivial, Or.inr trivial, trivial⟩, rfl, rfl, rfl, Nat.le_of_ble_eq_true rfl⟩ rfl zC5 rfl rfl dX14_run_19 (fun r_19 w_19 hp => ?_) (fun _ _ h => h.elim)
    obtain ⟨rfl, rfl⟩ := hp
    refine z_ieq eal ?_
    refine z_weq (w' := [zH, zO _ [zr _ _, zr _ _, zn], zO _ [zi _, zi _, zr _ _], zAi 0 24 _, zAi 2 1024 _]) rfl ?_
    refine z_seq (S' := zi _ :: _) rfl ?_
    refine z_zaldN F rfl (Nat.le_of_ble_eq_true rfl) (by omega) rfl dX14_run_22 ?_
    refine z_if_neB F (tgt := 84) dX14_run_23 (by decide) (fun c_23 => ?_) (fun c_23 => ?_)
    · refine z_forget F 1 (w' := [zH, zH, zO _ [zi _, zi _, zr _ _], zAi 0 24 _, zAi 2 1024 _]) rfl ?_
      refine z_forget F 4 (w' := [zH, zH, zO _ [zi _, zi _, zr _ _], zAi 0 24 _, zH]) rfl ?_
      refine z_iload_n F dX14_run_84 rfl ?_
      exact z_iret F E rfl dX14_run_85 (by omega) (by omega) (⟨0, by omega, rfl, fun r' hr => absurd hr (by omega), (hNw _ (by omega)).mp c_23, rfl⟩)
    · refine z_aload_n F dX14_run_26 rfl ?_
      refine z_sipush F (nI 1024) dX14_run_27 rfl ?_
      refine z_newaZ F 1024 5 q264 (nI_pos (by omega)) (zcl_n (by omega)) (by omega) rfl (Nat.le_of_ble_eq_true rfl) ⟨trivial, rfl, rfl, trivial, trivial, trivial⟩ rfl rfl ⟨by omega, by omega⟩ dX14_run_30 ?_
      refine z_weq (w' := [_, _, _, _, _, _]) rfl ?_
      refine z_put F zC14 (f := 2) rfl (Nat.le_of_ble_eq_true rfl) q1432 rfl (fun _ => rfl) (fun _ => rfl) (Nat.le_of_ble_eq_true rfl) dX14_run_32 ?_
      refine z_weq (w' := [_, zO _ [_, _, _], _, _, _, _]) rfl ?_
      refine z_iconst F (nI 0) dX14_run_35 rfl ?_
      refine z_istore_n F dX14_run_36 (Nat.le_of_ble_eq_true rfl) ?_
      refine z_leq (L' := [_, _, _, _]) rfl ?_
      exact inn (2 ^ n + 1) 0 (fun _ => false) (by omega) (by omega) (fun z => by rw [(hNw _ (by omega)).mpr z] at c_23; cases c_23) (fun c hcl => ⟨fun z => (by cases z), fun ⟨u, a, _⟩ => absurd a (by omega)⟩)
  refine z_aload_n F dX14_run_0 rfl ?_
  refine z_get F zC14 (f := 1) rfl (Nat.le_of_ble_eq_true rfl) q1431 rfl dX14_run_1 ?_
  refine z_iconst F (nI 1) dX14_run_4 rfl ?_
  refine z_iload_n F dX14_run_5 rfl ?_
  refine z_ishlB F dX14_run_6 ?_
  refine z_ieq ((b1_nI (by omega) : b1 v = nI (2 ^ v))) ?_
  refine z_iconst F (nI 1) dX14_run_7 rfl ?_
  refine z_zastN F rfl (Nat.le_of_ble_eq_true rfl) (by omega) dX14_run_8 ?_
  refine z_weq (w' := [_, _, _, _, _]) rfl ?_
  refine z_iconst F (nI 0) dX14_run_9 rfl ?_
  refine z_istore_n F dX14_run_10 (Nat.le_of_ble_eq_true rfl) ?_
  refine z_leq (L' := [_, _, _, _]) rfl ?_
  refine z_weq (w' := [zH, zO 14 [zr 2 0, zr 4 0, zn], eNet 3 (nI n) (nI d), zAi 0 24 f, zAi 2 1024 (fun c => bI (if c = 2 ^ v then true else (fun _ => false) c))]) (by rw [← updB]; rfl) ?_
  refine fst _ (fun c hcl => ?_)
  show (if c = 2 ^ v then true else false) = true ↔ c = 2 ^ v
  by_cases e : c = 2 ^ v
  · rw [if_pos e]; exact ⟨fun _ => e, fun _ => rfl⟩
  · rw [if_neg e]; exact ⟨fun z => (by cases z), fun z => absurd z e⟩
theorem c_ptell (P : zPt) (t : Nat) (fp sn0 g0 sm0 : Int32) (D : Nat → Int32) (j n d : Nat) (f : Nat → Int32) (k : Int32) (hj : j < 8) (h : nok n d f) (hP : P j = some (nI n, nI d, f)) : zCtr yX1_tell cX1_tell 4 (some .int) 14 30 26700 [zr 1 0, zi (nI j), zi k] (xFl P t fp sn0 g0 sm0 D) (fun r w => ∃ v, v < n ∧ k = nI v ∧ ((n ≤ 10 ∧ cjn n f = true ∧ ∃ ro, ro ≤ 24 ∧ r = some (zi (nI ro)) ∧ (∀ r', r' < ro → ¬ nF n f v r' (2 ^ n - 1)) ∧ nF n f v ro (2 ^ n - 1)) ∨ (¬ (n ≤ 10 ∧ cjn n f = true) ∧ r = some (zi (-1)))) ∧ ∃ sn g sm D, w = xFl P t fp sn g sm D) (fun E w => E = eNSE ∧ knB n k = false ∧ w = xFl P t fp sn0 g0 sm0 D) := by
  refine z_start (by decide) [some (zr 1 0), some (zi (nI j)), some (zi k), none] rfl (fun _ => Nat.le_of_ble_eq_true rfl) (fun _ => rfl) (fun X F E hno hin => ?_)
  have h1 := h.n1
  have h24 := h.n24
  refine z_aload_n F dX1_tell_0 rfl ?_
  refine z_iload_n F dX1_tell_1 rfl ?_
  refine z_callV F (c_netAt_ok P t fp j hj hP) 1 rfl (lw_V q429 q431 qs0 q109 q432) (by decide +kernel) ⟨Nat.le_of_ble_eq_true rfl, Nat.le_of_ble_eq_true rfl⟩ ⟨by omega, by omega⟩ [0, 1, 2, 3, 4, 5, 6, 7, 8, 9, 10, 11, 12, 13, 14, 15, 16, 17, 18, 19, 20, 21] 22 ⟨rfl, rfl, rfl, ⟨Or.inr (congrArg some (zrnP rfl).symm), Or.inr rfl, Or.inl rfl, Or.inl rfl, Or.inl rfl, Or.inl rfl, Or.inl rfl, Or.inl rfl, Or.inl rfl, Or.inl rfl, Or.inl rfl, Or.inl rfl, Or.inl rfl, Or.inl rfl, Or.inl rfl, Or.inl rfl, Or.inl rfl, Or.inl rfl, Or.inl rfl, Or.inl rfl, Or.inl rfl, Or.inl rfl, trivial⟩⟩ (fun _ => rfl) (Nat.le_of_ble_eq_true rfl) ⟨⟨Or.inl rfl, Or.inl rfl, Or.inr trivial, Or.inr rfl, Or.inr trivial, Or.inr trivial, Or.inr trivial, Or.inr trivial, Or.inr trivial, Or.inr trivial, Or.inr trivial, Or.inr trivial, Or.inr trivial, Or.inr trivial, Or.inr trivial, Or.inr trivial, Or.inr trivial, Or.inr trivial, Or.inr trivial, Or.inr trivial, Or.inr trivial, Or.inr trivial, trivial⟩, rfl, rfl, rfl, Nat.le_of_ble_eq_true rfl⟩ rfl zC1 rfl rfl dX1_tell_2 (fun r_2 w_2 hp => ?_) (fun _ _ h => h.elim)
  obtain ⟨rfl, rfl⟩ := hp
  refine z_weq (w' := zPl (pR _) _ :: _) (congrArg (fun z => z :: _) (zrnP rfl)) ?_
  refine z_weq (w' := [zPl _ _, zO _ [zr _ _, zr _ _, zr _ _, zr _ _, zr _ _, zi _, zi _, zr _ _, zr _ _], zH, zO _ [zr _ _, zi _, zi _, zi _], zAi 0 24 _, zH, zH, zH, zH, zH, zH, zH, zH, zH, zH, zH, zH, zH, zH, zH, zH, zH]) rfl ?_
  refine z_seq (S' := zr _ _ :: _) rfl ?_
  refine z_astore_n F dX1_tell_5 (Nat.le_of_ble_eq_true rfl) ?_
  refine z_leq (L' := [_, _, _, _]) rfl ?_
  refine z_foc F j hj hP (N := 22) (M := 23) (L' := [_, _, _, some (zr 22 0)]) (S' := []) rfl rfl (Nat.le_of_ble_eq_true rfl) ⟨rfl, trivial, rfl, trivial, trivial, trivial, trivial, trivial, trivial, trivial, trivial, trivial, trivial, trivial, trivial, trivial, trivial, trivial, trivial, trivial, trivial, trivial⟩ ⟨Or.inl rfl, Or.inl rfl, Or.inl rfl, Or.inr ⟨rfl, rfl⟩, trivial⟩ rfl trivial rfl ?_
  refine z_weq (w' := [zPl _ _, zO _ [zr _ _, zr _ _, zr _ _, zr _ _, zr _ _, zi _, zi _, zr _ _, zr _ _], zH, zO _ [zr _ _, zi _, zi _, zi _], zAi 0 24 _, zH, zH, zH, zH, zH, zH, zH, zH, zH, zH, zH, zH, zH, zH, zH, zH, zH, zO _ [zi _, zi _, zr _ _], zAi 0 24 _]) rfl ?_
  refine z_aload_n F dX1_tell_6 rfl ?_
  refine z_iload_n F dX1_tell_7 rfl ?_
  refine z_callS F (c_knot n (nI d) k h1 h24) 2 rfl (lw_S q500 q501 q109 q502) (by decide +kernel) ⟨Nat.le_of_ble_eq_true rfl, Nat.le_of_ble_eq_true rfl⟩ ⟨by omega, by omega⟩ [0, 22, 23] 24 ⟨rfl, rfl, rfl, ⟨Or.inl rfl, Or.inr rfl, Or.inl rfl, trivial⟩⟩ (fun h => nomatch h) (Nat.le_of_ble_eq_true rfl) ⟨⟨Or.inr (by first | exact ⟨rfl, pR_B _ (by decide)⟩ | exact ⟨rfl, uR_B (by decide) (by decide)⟩), Or.inr rfl, Or.inr trivial, Or.inr rfl, Or.inr trivial, Or.inr trivial, Or.inr trivial, Or.inr trivial, Or.inr trivial, Or.inr trivial, Or.inr trivial, Or.inr trivial, Or.inr trivial, Or.inr trivial, Or.inr trivial, Or.inr trivial, Or.inr trivial, Or.inr trivial, Or.inr trivial, Or.inr trivial, Or.inr trivial, Or.inr trivial, Or.inl rfl, Or.inr trivial, trivial⟩, rfl, rfl, rfl, Nat.le_of_ble_eq_true rfl⟩ rfl rfl dX1_tell_8 (fun r_8 w_8 hp => ?_) (fun E_ w_ hx => by obtain ⟨rfl, hb, rfl⟩ := hx; exact zx_pub F rfl E hno j 22 23 hj hP rfl rfl (Nat.le_of_ble_eq_true rfl) (Nat.le_of_ble_eq_true rfl) (Nat.le_of_ble_eq_true rfl) _ rfl ⟨rfl, trivial, rfl, trivial, trivial, trivial, trivial, trivial, trivial, trivial, trivial, trivial, trivial, trivial, trivial, trivial, trivial, trivial, trivial, trivial, trivial, trivial⟩ (Nat.le_of_ble_eq_true rfl) (by omega) (by omega) (⟨rfl, hb, rfl⟩))
  obtain ⟨rfl, hb, rfl⟩ := hp
  obtain ⟨v, hv, rfl⟩ := knB_of h24 hb
  refine z_weq (w' := [zPl _ _, zO _ [zr _ _, zr _ _, zr _ _, zr _ _, zr _ _, zi _, zi _, zr _ _, zr _ _], zH, zO _ [zr _ _, zi _, zi _, zi _], zAi 0 24 _, zH, zH, zH, zH, zH, zH, zH, zH, zH, zH, zH, zH, zH, zH, zH, zH, zH, zO _ [zi _, zi _, zr _ _], zAi 0 24 _]) rfl ?_
  refine z_seq (S' := []) rfl ?_
  refine z_aload_n F dX1_tell_11 rfl ?_
  refine z_getN F zC5 (f := 0) rfl (Nat.le_of_ble_eq_true rfl) q245 rfl dX1_tell_12 ?_
  refine z_bipush F (nI 10) dX1_tell_15 rfl ?_
  refine z_icmp_gtN F (by omega) (by omega) (tgt := 31) dX1_tell_17 (by decide) (fun c_17 => ?_) (fun c_17 => ?_)
  · refine z_iconst F (-1) dX1_tell_31 rfl ?_
    refine z_goto F (tgt := 47) dX1_tell_32 (by decide) ?_
    refine z_loc [some _, some _, some _, none] ⟨rfl, rfl, rfl, trivial⟩ ?_
    refine z_unfocus F rfl j 22 23 22 hj zput_self rfl rfl (Nat.le_of_ble_eq_true rfl) (Nat.le_of_ble_eq_true rfl) (Nat.le_of_ble_eq_true rfl) (Nat.le_of_ble_eq_true rfl) [zO _ [zr _ _, zr _ _, zr _ _, zr _ _, zr _ _, zi _, zi _, zr _ _, zr _ _], zH, zO _ [zr _ _, zi _, zi _, zi _], zAi 0 24 _, zH, zH, zH, zH, zH, zH, zH, zH, zH, zH, zH, zH, zH, zH, zH, zH, zH] rfl ⟨rfl, trivial, rfl, trivial, trivial, trivial, trivial, trivial, trivial, trivial, trivial, trivial, trivial, trivial, trivial, trivial, trivial, trivial, trivial, trivial, trivial, trivial⟩ uOK rfl rfl ?_
    refine z_weq (w' := zPl (pR (zput P j (some _))) (zput P j (some _)) :: _) (congrArg (fun z => z :: _) uPl2) ?_
    exact z_iret F E rfl dX1_tell_47 (by omega) (by omega) (⟨v, hv, rfl, Or.inr ⟨fun z => absurd z.1 (by omega), rfl⟩, sn0, g0, sm0, D, by rw [zput_some hP]; rfl⟩)
  · refine z_aload_n F dX1_tell_20 rfl ?_
    refine z_get F zC1 (f := 2) rfl (Nat.le_of_ble_eq_true rfl) q316 rfl dX1_tell_21 ?_
    refine z_aload_n F dX1_tell_24 rfl ?_
    refine z_callV F (c_cjn n (nI d) f _ _ _ _ h24 h1) 1 rfl (lw_V q818 q819 q820 q110 q821) (by decide +kernel) ⟨Nat.le_of_ble_eq_true rfl, Nat.le_of_ble_eq_true rfl⟩ ⟨by omega, by omega⟩ [0, 3, 4, 22, 23] 24 ⟨rfl, rfl, rfl, ⟨Or.inl rfl, Or.inr rfl, Or.inr rfl, Or.inr rfl, Or.inr rfl, trivial⟩⟩ (fun h => nomatch h) (Nat.le_of_ble_eq_true rfl) ⟨⟨Or.inr (by first | exact ⟨rfl, pR_B _ (by decide)⟩ | exact ⟨rfl, uR_B (by decide) (by decide)⟩), Or.inr rfl, Or.inr trivial, Or.inl rfl, Or.inl rfl, Or.inr trivial, Or.inr trivial, Or.inr trivial, Or.inr trivial, Or.inr trivial, Or.inr trivial, Or.inr trivial, Or.inr trivial, Or.inr trivial, Or.inr trivial, Or.inr trivial, Or.inr trivial, Or.inr trivial, Or.inr trivial, Or.inr trivial, Or.inr trivial, Or.inr trivial, Or.inl rfl, Or.inl rfl, trivial⟩, rfl, rfl, rfl, Nat.le_of_ble_eq_true rfl⟩ rfl zC2 rfl rfl dX1_tell_25 (fun r_25 w_25 hp => ?_) (fun _ _ h => h.elim)
    obtain ⟨rfl, sn1, g1, sm1, D1, rfl⟩ := hp
    refine z_weq (w' := [zPl _ _, zO _ [zr _ _, zr _ _, zr _ _, zr _ _, zr _ _, zi _, zi _, zr _ _, zr _ _], zH, zO _ [zr _ _, zi _, zi _, zi _], zAi 0 24 _, zH, zH, zH, zH, zH, zH, zH, zH, zH, zH, zH, zH, zH, zH, zH, zH, zH, zO _ [zi _, zi _, zr _ _], zAi 0 24 _]) rfl ?_
    refine z_seq (S' := zi _ :: _) rfl ?_
    refine z_if_neB F (tgt := 35) dX1_tell_28 (by decide) (fun c_28 => ?_) (fun c_28 => ?_)
    · refine z_new F 24 [zn, zn, zn] zC14 q1424 q1425 q142 (fun _ j hj => by match j, hj with | 0, _ => rfl | 1, _ => rfl | 2, _ => rfl) rfl (Nat.le_of_ble_eq_true rfl) (Nat.le_of_ble_eq_true rfl) ⟨(by first | exact pR_N _ (Nat.le_of_ble_eq_true rfl) | exact uR_N (Nat.le_of_ble_eq_true rfl) (Nat.le_of_ble_eq_true rfl)), rfl, trivial, rfl, trivial, trivial, trivial, trivial, trivial, trivial, trivial, trivial, trivial, trivial, trivial, trivial, trivial, trivial, trivial, trivial, trivial, trivial, rfl, trivial, trivial⟩ rfl rfl ⟨by omega, by omega⟩ dX1_tell_35 ?_
      refine z_weq (w' := [_, _, _, _, _, _, _, _, _, _, _, _, _, _, _, _, _, _, _, _, _, _, _, _, _]) rfl ?_
      refine z_dup F dX1_tell_38 rfl ?_
      refine z_aload_n F dX1_tell_39 rfl ?_
      refine z_callI F (c_rdInit (nI d) n f) 1 rfl (lw_meth q1428) q142 q1426 q1427 rfl (by decide +kernel) ⟨Nat.le_of_ble_eq_true rfl, Nat.le_of_ble_eq_true rfl⟩ ⟨by omega, by omega⟩ [0, 24, 22, 23] 25 ⟨rfl, rfl, rfl, ⟨Or.inl rfl, Or.inr rfl, Or.inr rfl, Or.inr rfl, trivial⟩⟩ (fun h => nomatch h) (Nat.le_of_ble_eq_true rfl) ⟨⟨Or.inr (by first | exact ⟨rfl, pR_B _ (by decide)⟩ | exact ⟨rfl, uR_B (by decide) (by decide)⟩), Or.inr rfl, Or.inr trivial, Or.inr rfl, Or.inr trivial, Or.inr trivial, Or.inr trivial, Or.inr trivial, Or.inr trivial, Or.inr trivial, Or.inr trivial, Or.inr trivial, Or.inr trivial, Or.inr trivial, Or.inr trivial, Or.inr trivial, Or.inr trivial, Or.inr trivial, Or.inr trivial, Or.inr trivial, Or.inr trivial, Or.inr trivial, Or.inl rfl, Or.inl rfl, Or.inl rfl, trivial⟩, rfl, rfl, rfl, Nat.le_of_ble_eq_true rfl⟩ rfl rfl dX1_tell_40 (fun r_40 w_40 hp => ?_) (fun _ _ h => h.elim)
      obtain ⟨rfl, rfl⟩ := hp
      refine z_weq (w' := [zPl _ _, zO _ [zr _ _, zr _ _, zr _ _, zr _ _, zr _ _, zi _, zi _, zr _ _, zr _ _], zH, zO _ [zr _ _, zi _, zi _, zi _], zAi 0 24 _, zH, zH, zH, zH, zH, zH, zH, zH, zH, zH, zH, zH, zH, zH, zH, zH, zH, zO _ [zi _, zi _, zr _ _], zAi 0 24 _, zO _ [zr _ _, zr _ _, zn], zAi 2 1024 _]) rfl ?_
      refine z_seq (S' := [_]) rfl ?_
      refine z_iload_n F dX1_tell_43 rfl ?_
      refine z_callV F (c_rdRun n d v f h (by omega) hv ((cjn_conn h1 h24 (fun a b ha hb => h.sym ha hb)).mp c_28)) 1 rfl (lw_V q1440 q1441 q1442 q142 q1443) (by decide +kernel) ⟨Nat.le_of_ble_eq_true rfl, Nat.le_of_ble_eq_true rfl⟩ ⟨by omega, by omega⟩ [0, 24, 22, 23, 25] 26 ⟨rfl, rfl, rfl, ⟨Or.inl rfl, Or.inr rfl, Or.inr rfl, Or.inr rfl, Or.inr rfl, trivial⟩⟩ (fun h => nomatch h) (Nat.le_of_ble_eq_true rfl) ⟨⟨Or.inr (by first | exact ⟨rfl, pR_B _ (by decide)⟩ | exact ⟨rfl, uR_B (by decide) (by decide)⟩), Or.inr rfl, Or.inr trivial, Or.inr rfl, Or.inr trivial, Or.inr trivial, Or.inr trivial, Or.inr trivial, Or.inr trivial, Or.inr trivial, Or.inr trivial, Or.inr trivial, Or.inr trivial, Or.inr trivial, Or.inr trivial, Or.inr trivial, Or.inr trivial, Or.inr trivial, Or.inr trivial, Or.inr trivial, Or.inr trivial, Or.inr trivial, Or.inl rfl, Or.inl rfl, Or.inl rfl, Or.inl rfl, trivial⟩, rfl, rfl, rfl, Nat.le_of_ble_eq_true rfl⟩ rfl zC14 rfl rfl dX1_tell_44 (fun r_44 w_44 hp => ?_) (fun _ _ h => h.elim)
      obtain ⟨ro, k1, rfl, k2, k3, rfl⟩ := hp
      refine z_weq (w' := [zPl _ _, zO _ [zr _ _, zr _ _, zr _ _, zr _ _, zr _ _, zi _, zi _, zr _ _, zr _ _], zH, zO _ [zr _ _, zi _, zi _, zi _], zAi 0 24 _, zH, zH, zH, zH, zH, zH, zH, zH, zH, zH, zH, zH, zH, zH, zH, zH, zH, zO _ [zi _, zi _, zr _ _], zAi 0 24 _, zH, zH]) rfl ?_
      refine z_seq (S' := zi _ :: _) rfl ?_
      refine z_loc [some _, some _, some _, none] ⟨rfl, rfl, rfl, trivial⟩ ?_
      refine z_unfocus F rfl j 22 23 22 hj zput_self rfl rfl (Nat.le_of_ble_eq_true rfl) (Nat.le_of_ble_eq_true rfl) (Nat.le_of_ble_eq_true rfl) (Nat.le_of_ble_eq_true rfl) [zO _ [zr _ _, zr _ _, zr _ _, zr _ _, zr _ _, zi _, zi _, zr _ _, zr _ _], zH, zO _ [zr _ _, zi _, zi _, zi _], zAi 0 24 _, zH, zH, zH, zH, zH, zH, zH, zH, zH, zH, zH, zH, zH, zH, zH, zH, zH] rfl ⟨rfl, trivial, rfl, trivial, trivial, trivial, trivial, trivial, trivial, trivial, trivial, trivial, trivial, trivial, trivial, trivial, trivial, trivial, trivial, trivial, trivial, trivial⟩ uOK rfl rfl ?_
      refine z_weq (w' := zPl (pR (zput P j (some _))) (zput P j (some _)) :: _) (congrArg (fun z => z :: _) uPl2) ?_
      exact z_iret F E rfl dX1_tell_47 (by omega) (by omega) (⟨v, hv, rfl, Or.inl ⟨by omega, c_28, ro, k1, rfl, k2, k3⟩, sn1, g1, sm1, D1, by rw [zput_some hP]; rfl⟩)
    · refine z_iconst F (-1) dX1_tell_31 rfl ?_
      refine z_goto F (tgt := 47) dX1_tell_32 (by decide) ?_
      refine z_loc [some _, some _, some _, none] ⟨rfl, rfl, rfl, trivial⟩ ?_
      refine z_unfocus F rfl j 22 23 22 hj zput_self rfl rfl (Nat.le_of_ble_eq_true rfl) (Nat.le_of_ble_eq_true rfl) (Nat.le_of_ble_eq_true rfl) (Nat.le_of_ble_eq_true rfl) [zO _ [zr _ _, zr _ _, zr _ _, zr _ _, zr _ _, zi _, zi _, zr _ _, zr _ _], zH, zO _ [zr _ _, zi _, zi _, zi _], zAi 0 24 _, zH, zH, zH, zH, zH, zH, zH, zH, zH, zH, zH, zH, zH, zH, zH, zH, zH] rfl ⟨rfl, trivial, rfl, trivial, trivial, trivial, trivial, trivial, trivial, trivial, trivial, trivial, trivial, trivial, trivial, trivial, trivial, trivial, trivial, trivial, trivial, trivial⟩ uOK rfl rfl ?_
      refine z_weq (w' := zPl (pR (zput P j (some _))) (zput P j (some _)) :: _) (congrArg (fun z => z :: _) uPl2) ?_
      exact z_iret F E rfl dX1_tell_47 (by omega) (by omega) (⟨v, hv, rfl, Or.inr ⟨fun z => (by rw [c_28] at z; cases z.2), rfl⟩, sn1, g1, sm1, D1, by rw [zput_some hP]; rfl⟩)
end C9yk
end
section
/-! tell: the reference's counts of who can be told at once -/
section C9yl
theorem cs_lt {sel : Nat → Bool} {k n : Nat} (hk : k < n) (h : sel k = true) : fb_ct sel k < fb_ct sel n := by
  have e := fb_ct_mono sel (show k + 1 ≤ n from hk)
  rw [fb_ct_succ, h] at e
  simp at e
  omega
theorem mA_map {g g' : Nat → Nat → Bool} {S : Nat → Prop} {φ : Nat → Nat} (h : mA g S) (h1 : ∀ z, S z → φ z < 24) (hi : ∀ x y, S x → S y → φ x = φ y → x = y) (hg : ∀ z t, S z → t < 24 → g z t = true → g' (φ z) t = true) : mA g' (fun y => ∃ z, S z ∧ φ z = y) := by
  obtain ⟨O, h⟩ := h
  refine ⟨fun t => (O t).map φ, fun t y e => ?_, fun t u y e1 e2 => ?_, fun y hy => ?_⟩
  · obtain ⟨z, hz, rfl⟩ := Option.map_eq_some_iff.mp e
    obtain ⟨a, b, c⟩ := h.1 t z hz
    exact ⟨a, hg z t c a b, z, c, rfl⟩
  · obtain ⟨z, hz, q1⟩ := Option.map_eq_some_iff.mp e1
    obtain ⟨z2, hz2, q2⟩ := Option.map_eq_some_iff.mp e2
    have : z = z2 := hi z z2 (h.1 t z hz).2.2 (h.1 u z2 hz2).2.2 (q1.trans q2.symm)
    subst this
    exact h.2.1 t u z hz hz2
  · obtain ⟨z, hz, rfl⟩ := hy
    obtain ⟨-, t, ht⟩ := h.2.2 z hz
    exact ⟨h1 z hz, t, by show (O t).map φ = _; rw [ht]; rfl⟩
theorem ctP_img {S T : Nat → Prop} {g : Nat → Nat} (h : ∀ i, i < 24 → S i → ∃ j, j < 24 ∧ T j ∧ g j = i) : ctP S ≤ ctP T := by
  refine fb_ct_img (g := g) 24 _ fun i hi hp => ?_
  obtain ⟨j, j1, j2, j3⟩ := h i hi (dcp.mp hp)
  exact ⟨j, j1, dcp.mpr j2, j3⟩
theorem ctP_below {m : Nat} (hm : m ≤ 24) : ctP (fun i => i < m) = m := by
  rw [ctP_k hm (fun z h => h)]
  exact fb_ct_all.mpr fun k hk => dcp.mpr hk
def gR (R : Nat → Int32) : Nat → Nat → Bool := fun i t => bt (R i) t && decide (t < 24)
theorem gR_lt {R : Nat → Int32} {z t : Nat} (h : gR R z t = true) : t < 24 := by
  unfold gR at h
  rw [Bool.and_eq_true, decide_eq_true_eq] at h
  exact h.2
theorem gR_eq {R : Nat → Int32} {z t : Nat} (h : t < 24) : gR R z t = bt (R z) t := by
  unfold gR; rw [decide_eq_true h, Bool.and_true]
/-- rows set close together -/
abbrev packed (n : Nat) (sel : Nat → Bool) (f R : Nat → Int32) (A : Int32) : Prop := ∀ k, k < n → sel k = true → R (fb_ct sel k) = f k &&& A
theorem pk_g {n : Nat} {sel : Nat → Bool} {f R : Nat → Int32} {A : Int32} (h : packed n sel f R A) {k t : Nat} (hk : k < n) (hs : sel k = true) : bt (R (fb_ct sel k)) t = tg f A k t := by
  rw [h k hk hs, b_and]; rfl
theorem pk_psi {n : Nat} (sel : Nat → Bool) : ∃ ψ : Nat → Nat, ∀ i, i < fb_ct sel n → ψ i < n ∧ sel (ψ i) = true ∧ fb_ct sel (ψ i) = i := by
  have key : ∀ i, ∃ k, i < fb_ct sel n → k < n ∧ sel k = true ∧ fb_ct sel k = i := fun i => by
    by_cases q : i < fb_ct sel n
    · obtain ⟨k, hk⟩ := fb_ct_kth q
      exact ⟨k, fun _ => hk⟩
    · exact ⟨0, fun z => absurd z q⟩
  obtain ⟨ψ, hψ⟩ := Classical.axiomOfChoice key
  exact ⟨ψ, hψ⟩
theorem pk_up {n : Nat} {sel : Nat → Bool} {f R : Nat → Int32} {A : Int32} (hn : n ≤ 24) (h : packed n sel f R A) {S : Nat → Prop} (hS : mA (gR R) S) (hlt : ∀ z, S z → z < fb_ct sel n) : ∃ T : Nat → Prop, mA (tg f A) T ∧ (∀ z, T z → z < n ∧ sel z = true) ∧ ctP S ≤ ctP T ∧ ∀ k, k < n → sel k = true → S (fb_ct sel k) → T k := by
  obtain ⟨ψ, hψ⟩ := pk_psi (n := n) sel
  refine ⟨_, mA_map (φ := ψ) hS (fun z hz => by have := (hψ z (hlt z hz)).1; omega) (fun x y hx hy e => ?_) (fun z t hz ht hg => ?_), fun z hz => ?_, ctP_img (g := fb_ct sel) fun i hi hSi => ?_, fun k hk hs hSk => ?_⟩
  · rw [← (hψ x (hlt x hx)).2.2, ← (hψ y (hlt y hy)).2.2, e]
  · obtain ⟨a, b, c⟩ := hψ z (hlt z hz)
    rw [← pk_g h a b, c, ← gR_eq ht]; exact hg
  · obtain ⟨i, hi, rfl⟩ := hz
    exact ⟨(hψ i (hlt i hi)).1, (hψ i (hlt i hi)).2.1⟩
  · obtain ⟨a, b, c⟩ := hψ i (hlt i hSi)
    exact ⟨ψ i, by omega, ⟨i, hSi, rfl⟩, c⟩
  · obtain ⟨a, b, c⟩ := hψ _ (hlt _ hSk)
    exact ⟨_, hSk, fb_ct_kth_one b hs c⟩
theorem pk_dn {n : Nat} {sel : Nat → Bool} {f R : Nat → Int32} {A : Int32} (hn : n ≤ 24) (h : packed n sel f R A) {T : Nat → Prop} (hT : mA (tg f A) T) (hlt : ∀ z, T z → z < n ∧ sel z = true) : ∃ S : Nat → Prop, mA (gR R) S ∧ (∀ z, S z → z < fb_ct sel n) ∧ ctP T ≤ ctP S ∧ ∀ k, T k → S (fb_ct sel k) := by
  obtain ⟨ψ, hψ⟩ := pk_psi (n := n) sel
  have hcl := fun {k} (q : T k) => cs_lt (hlt k q).1 (hlt k q).2
  have hmn := fb_ct_le sel n
  refine ⟨_, mA_map (φ := fb_ct sel) hT (fun z hz => by have := hcl hz; omega) (fun x y hx hy e => fb_ct_kth_one (hlt x hx).2 (hlt y hy).2 e) (fun z t hz ht hg => ?_), fun z hz => ?_, ctP_img (g := ψ) fun i hi hTi => ?_, fun k hk => ⟨k, hk, rfl⟩⟩
  · rw [gR_eq ht, pk_g h (hlt z hz).1 (hlt z hz).2]; exact hg
  · obtain ⟨k, hk, rfl⟩ := hz
    exact hcl hk
  · refine ⟨fb_ct sel i, by have := hcl hTi; omega, ⟨i, hTi, rfl⟩, ?_⟩
    obtain ⟨a, b, c⟩ := hψ _ (hcl hTi)
    exact fb_ct_kth_one b (hlt i hTi).2 c
theorem pk_most {n : Nat} {f R : Nat → Int32} {A : Int32} (hn : n ≤ 24) (hA : ∀ k, bt A k = true → k < n) (h : packed n (fun k => !bt A k) f R A) : gN (gR R) (fb_ct (fun k => !bt A k) n) = mostT n f A := by
  have hmn := fb_ct_le (fun k => !bt A k) n
  refine Nat.le_antisymm ?_ ?_
  · obtain ⟨T, t1, t2, t3, -⟩ := pk_up hn h (gS_mA (g := gR R) (fb_ct (fun k => !bt A k) n)) (fun z hz => gS_lt hz)
    rw [← gN_ctP (by omega)] at t3
    exact Nat.le_trans t3 (mostT_ge hn hA t1 (fun z hz => (t2 z hz).1) (fun z hz => by have := (t2 z hz).2; cases hb : bt A z with
      | false => rfl
      | true => rw [hb] at this; cases this))
  · have hG : ∀ z, gS (tgr f A) n z → bt A z = false := fun z hz => by
      obtain ⟨O', hO'⟩ := gS_mA (g := tgr f A) n
      obtain ⟨-, t, ht⟩ := hO'.2.2 z hz
      have := (hO'.1 t z ht).2.1
      unfold tgr at this
      cases hb : bt A z with
      | false => rfl
      | true => rw [hb] at this; cases this
    obtain ⟨S, s1, s2, s3, -⟩ := pk_dn hn h ((tgr_iff hG).mp (gS_mA (g := tgr f A) n)) (fun z hz => ⟨gS_lt hz, by rw [hG z hz]; rfl⟩)
    rw [← gN_ctP hn] at s3
    exact Nat.le_trans s3 (gN_max (fun z t q => gR_lt q) (by omega) s1 s2)
theorem pk_all {n : Nat} {sel : Nat → Bool} {f R : Nat → Int32} {A : Int32} (hn : n ≤ 24) (h : packed n sel f R A) : gN (gR R) (fb_ct sel n) = fb_ct sel n ↔ mA (tg f A) (fun k => k < n ∧ sel k = true) := by
  have hmn := fb_ct_le sel n
  constructor
  · intro e
    rw [gN_ctP (by omega), ctP_k (by omega) (fun z hz => gS_lt hz), fb_ct_all] at e
    obtain ⟨T, t1, t2, -, t4⟩ := pk_up hn h (gS_mA (g := gR R) (fb_ct sel n)) (fun z hz => gS_lt hz)
    exact mA_sub t1 fun z hz => t4 z hz.1 hz.2 (dcp.mp (e _ (cs_lt hz.1 hz.2)))
  · intro hT
    obtain ⟨S, s1, s2, -, s4⟩ := pk_dn hn h hT (fun z hz => hz)
    refine Nat.le_antisymm (gN_k _) ?_
    have h1 : mA (gR R) (fun i => i < fb_ct sel n) := mA_sub s1 fun i hi => by
      obtain ⟨k, a, b, c⟩ := fb_ct_kth hi
      rw [← c]; exact s4 k ⟨a, b⟩
    have h2 := gN_max (fun z t q => gR_lt q) (show fb_ct sel n ≤ 24 by omega) h1 (fun z hz => hz)
    rw [ctP_below (by omega)] at h2
    exact h2
theorem c_mtoldAt (F0 : Nat → Int32) (G : Nat → Int64) (A : Nat → Nat → Int32) (B : Nat → Nat → Int64) (n s : Nat) (f : Nat → Int32) (hn : n ≤ 24) (hs : s < 2 ^ n) (h4 : F0 4 = nI n) (hf : ∀ k, k < n → A 6 k = f k) :
    zCtr yX6_toldAtMost cX6_toldAtMost 4 (some .int) 3 0 0 [zr 1 0, zi (nI s)] [zH, zG F0 G A B] (fun r w => r = some (zi (nI (mostT n f (nI s)))) ∧ ∃ A', w = [zH, zG F0 G A' B] ∧ frm [68, 69, 70, 71] A A') zNx := by
  refine z_start (by decide) [some (zr 1 0), some (zi (nI s)), none, none] rfl (fun _ => Nat.le_of_ble_eq_true rfl) (fun _ => rfl) (fun X F E hno hin => ?_)
  have hA : ∀ k, bt (nI s) k = true → k < n := fun k hk => in_lt hs hk
  have two : ∀ (m k : Nat) (A1 : Nat → Nat → Int32), n - k < m → k ≤ n → frm [68] A A1 → (∀ k', k' < k → bt (nI s) k' = false → A1 68 (fb_ct (fun k => !bt (nI s) k) k') = f k' &&& nI s) → Z X [some (zr 1 0), some (zi (nI s)), some (zi (nI (fb_ct (fun k => !bt (nI s) k) k))), some (zi (nI k))] [] [zH, zG F0 G A1 B] 0 0 25 := by
    intro m
    induction m with
    | zero => intro k A1 hm; omega
    | succ m ih =>
      intro k A1 hm hk hA1 hR
      have c1 := fb_ct_le (fun k => !bt (nI s) k) k
      have t1 := fun z => (congrFun (hA1.at 6 rfl) k).trans (hf k z)
      have nx := fun A2 z1 z2 => ih (k + 1) A2 (by omega) z1 z2
      refine z_iload_n F dX6_toldAtMost_25 rfl ?_
      refine z_aload_n F dX6_toldAtMost_26 rfl ?_
      refine z_mi F rfl 4 rfl (Nat.le_of_ble_eq_true rfl) rfl q1484 dX6_toldAtMost_27 ?_
      refine z_ieq (h4) ?_
      refine z_icmp_geN F (by omega) (by omega) (tgt := 68) dX6_toldAtMost_30 (by decide) (fun c_30 => ?_) (fun c_30 => ?_)
      · have ek : k = n := by omega
        subst ek
        have hpk : packed k (fun k => !bt (nI s) k) f (A1 68) (nI s) := fun k' hk' hb => hR k' hk' (by
          cases h9 : bt (nI s) k' with
          | false => rfl
          | true => rw [h9] at hb; cases hb)
        refine z_aload_n F dX6_toldAtMost_68 rfl ?_
        refine z_iload_n F dX6_toldAtMost_69 rfl ?_
        refine z_callV F (c_mmatches F0 G A1 B (gR (A1 68)) (fb_ct (fun k => !bt (nI s) k) k) (fb_ct (fun k => !bt (nI s) k) k) (by omega) (Nat.le_refl _) (fun z t hz ht => (gR_eq ht).symm)) 1 rfl (lw_V q2111 q2113 qs99 q117 q2114) (by decide +kernel) ⟨Nat.le_of_ble_eq_true rfl, Nat.le_of_ble_eq_true rfl⟩ ⟨by omega, by omega⟩ [0, 1] 2 ⟨rfl, rfl, rfl, ⟨Or.inl rfl, Or.inr rfl, trivial⟩⟩ (fun h => nomatch h) (Nat.le_of_ble_eq_true rfl) ⟨⟨Or.inr trivial, Or.inl rfl, trivial⟩, rfl, rfl, rfl, Nat.le_of_ble_eq_true rfl⟩ rfl zC6 (zat_G0 rfl) rfl dX6_toldAtMost_70 (fun r_70 w_70 hp => ?_) (fun _ _ h => h.elim)
        obtain ⟨rfl, A2, rfl, g1⟩ := hp
        refine z_weq (w' := [zH, zG _ _ _ _]) rfl ?_
        refine z_seq (S' := zi _ :: _) rfl ?_
        exact z_iret F E rfl dX6_toldAtMost_73 (by omega) (by omega) (⟨by rw [pk_most hn hA hpk], A2, rfl, hA1.tr g1 (by decide) (by decide)⟩)
      · have t1 := t1 (by omega)
        have nx := fun A2 => nx A2 (by omega)
        refine z_iload_n F dX6_toldAtMost_33 rfl ?_
        refine z_iload_n F dX6_toldAtMost_34 rfl ?_
        refine z_ishr F dX6_toldAtMost_35 ?_
        refine z_iconst F (nI 1) dX6_toldAtMost_36 rfl ?_
        refine z_iandB F (by omega) dX6_toldAtMost_37 ?_
        refine z_iconst F (nI 1) dX6_toldAtMost_38 rfl ?_
        refine z_icmp_neB F (tgt := 45) dX6_toldAtMost_39 (by decide) (fun c_39 => ?_) (fun c_39 => ?_)
        · refine z_aload_n F dX6_toldAtMost_45 rfl ?_
          refine z_ma F rfl 68 rfl (Nat.le_of_ble_eq_true rfl) rfl q1548 dX6_toldAtMost_46 ?_
          refine z_iload_n F dX6_toldAtMost_49 rfl ?_
          refine z_aload_n F dX6_toldAtMost_50 rfl ?_
          refine z_ma F rfl 6 rfl (Nat.le_of_ble_eq_true rfl) rfl q1486 dX6_toldAtMost_51 ?_
          refine z_iload_n F dX6_toldAtMost_54 rfl ?_
          refine z_ialdGN F rfl rfl (Nat.le_of_ble_eq_true rfl) (by omega) rfl dX6_toldAtMost_55 ?_
          refine z_iload_n F dX6_toldAtMost_56 rfl ?_
          refine z_iand F dX6_toldAtMost_57 ?_
          refine z_ieq (congrArg (fun z => z &&& nI s) t1) ?_
          refine z_iastGN F rfl rfl (Nat.le_of_ble_eq_true rfl) (by omega) dX6_toldAtMost_58 ?_
          refine z_weq (w' := [_, _]) rfl ?_
          refine z_iincN F 1 dX6_toldAtMost_59 rfl rfl ?_
          refine z_leq (L' := [_, _, _, _]) rfl ?_
          refine z_iincN F 1 dX6_toldAtMost_62 rfl rfl ?_
          refine z_leq (L' := [_, _, _, _]) rfl ?_
          refine z_goto F (tgt := 25) dX6_toldAtMost_65 (by decide) ?_
          have e1 : fb_ct (fun k => !bt (nI s) k) (k + 1) = fb_ct (fun k => !bt (nI s) k) k + 1 := by rw [fb_ct_succ, c_39]; rfl
          have i1 := nx (zup2 A1 68 (fb_ct (fun k => !bt (nI s) k) k) (f k &&& nI s)) (frm_zup hA1 (by decide)) (fun k' hk' hb => by
            rw [zup2_row]
            show (if _ = _ then _ else A1 68 _) = _
            by_cases e : k' = k
            · rw [e, if_pos rfl]
            · have := cs_lt (sel := fun k => !bt (nI s) k) (show k' < k by omega) (by rw [hb]; rfl)
              rw [if_neg (by omega)]; exact hR k' (by omega) hb)
          rw [e1] at i1
          exact i1
        · refine z_goto F (tgt := 62) dX6_toldAtMost_42 (by decide) ?_
          refine z_iincN F 1 dX6_toldAtMost_62 rfl rfl ?_
          refine z_leq (L' := [_, _, _, _]) rfl ?_
          refine z_goto F (tgt := 25) dX6_toldAtMost_65 (by decide) ?_
          have e1 : fb_ct (fun k => !bt (nI s) k) (k + 1) = fb_ct (fun k => !bt (nI s) k) k := by rw [fb_ct_succ, c_39]; rfl
          have i1 := nx A1 hA1 (fun k' hk' hb => by
            by_cases e : k' = k
            · rw [e, c_39] at hb; cases hb
            · exact hR k' (by omega) hb)
          rw [e1] at i1
          exact i1
  have one : ∀ (m k : Nat) (A1 : Nat → Nat → Int32), 24 - k < m → k ≤ 24 → frm [68] A A1 → Z X [some (zr 1 0), some (zi (nI s)), some (zi (nI 0)), some (zi (nI k))] [] [zH, zG F0 G A1 B] 0 0 4 := by
    intro m
    induction m with
    | zero => intro k A1 hm; omega
    | succ m ih =>
      intro k A1 hm hk hA1
      refine z_iload_n F dX6_toldAtMost_4 rfl ?_
      refine z_bipush F (nI 24) dX6_toldAtMost_5 rfl ?_
      refine z_icmp_geN F (by omega) (by omega) (tgt := 23) dX6_toldAtMost_7 (by decide) (fun c_7 => ?_) (fun c_7 => ?_)
      · refine z_iconst F (nI 0) dX6_toldAtMost_23 rfl ?_
        refine z_istore_n F dX6_toldAtMost_24 (Nat.le_of_ble_eq_true rfl) ?_
        refine z_leq (L' := [_, _, _, _]) rfl ?_
        exact two (n + 1) 0 A1 (by omega) (by omega) hA1 (fun k' hk' => absurd hk' (by omega))
      · refine z_aload_n F dX6_toldAtMost_10 rfl ?_
        refine z_ma F rfl 68 rfl (Nat.le_of_ble_eq_true rfl) rfl q1548 dX6_toldAtMost_11 ?_
        refine z_iload_n F dX6_toldAtMost_14 rfl ?_
        refine z_iconst F (nI 0) dX6_toldAtMost_15 rfl ?_
        refine z_iastGN F rfl rfl (Nat.le_of_ble_eq_true rfl) (by omega) dX6_toldAtMost_16 ?_
        refine z_weq (w' := [_, _]) rfl ?_
        refine z_iincN F 1 dX6_toldAtMost_17 rfl rfl ?_
        refine z_leq (L' := [_, _, _, _]) rfl ?_
        refine z_goto F (tgt := 4) dX6_toldAtMost_20 (by decide) ?_
        exact ih (k + 1) _ (by omega) (by omega) (frm_zup hA1 (by decide))
  refine z_iconst F (nI 0) dX6_toldAtMost_0 rfl ?_
  refine z_istore_n F dX6_toldAtMost_1 (Nat.le_of_ble_eq_true rfl) ?_
  refine z_leq (L' := [_, _, _, _]) rfl ?_
  refine z_iconst F (nI 0) dX6_toldAtMost_2 rfl ?_
  refine z_istore_n F dX6_toldAtMost_3 (Nat.le_of_ble_eq_true rfl) ?_
  refine z_leq (L' := [_, _, _, _]) rfl ?_
  exact one 25 0 A (by omega) (by omega) frm.rf
theorem c_mareTold (F0 : Nat → Int32) (G : Nat → Int64) (A : Nat → Nat → Int32) (B : Nat → Nat → Int64) (n s q : Nat) (f : Nat → Int32) (hn : n ≤ 24) (hq : q < 2 ^ n) (h4 : F0 4 = nI n) (hf : ∀ k, k < n → A 6 k = f k) :
    zCtr yX6_areTold cX6_areTold 5 (some .boolean) 3 0 0 [zr 1 0, zi (nI s), zi (nI q)] [zH, zG F0 G A B] (fun r w => ∃ b, r = some (zi (bI b)) ∧ (b = true ↔ mA (tg f (nI s)) (fun k => bt (nI q) k = true)) ∧ ∃ A', w = [zH, zG F0 G A' B] ∧ frm [68, 69, 70, 71] A A') zNx := by
  refine z_start (by decide) [some (zr 1 0), some (zi (nI s)), some (zi (nI q)), none, none] rfl (fun _ => Nat.le_of_ble_eq_true rfl) (fun _ => rfl) (fun X F E hno hin => ?_)
  have two : ∀ (m k : Nat) (A1 : Nat → Nat → Int32), n - k < m → k ≤ n → frm [68] A A1 → (∀ k', k' < k → bt (nI q) k' = true → A1 68 (fb_ct (bt (nI q)) k') = f k' &&& nI s) → Z X [some (zr 1 0), some (zi (nI s)), some (zi (nI q)), some (zi (nI (fb_ct (bt (nI q)) k))), some (zi (nI k))] [] [zH, zG F0 G A1 B] 0 0 29 := by
    intro m
    induction m with
    | zero => intro k A1 hm; omega
    | succ m ih =>
      intro k A1 hm hk hA1 hR
      have c1 := fb_ct_le (bt (nI q)) k
      have t1 := fun z => (congrFun (hA1.at 6 rfl) k).trans (hf k z)
      have nx := fun A2 z1 z2 => ih (k + 1) A2 (by omega) z1 z2
      refine z_iload F dX6_areTold_29 rfl ?_
      refine z_aload_n F dX6_areTold_31 rfl ?_
      refine z_mi F rfl 4 rfl (Nat.le_of_ble_eq_true rfl) rfl q1484 dX6_areTold_32 ?_
      refine z_ieq (h4) ?_
      refine z_icmp_geN F (by omega) (by omega) (tgt := 74) dX6_areTold_35 (by decide) (fun c_35 => ?_) (fun c_35 => ?_)
      · have ek : k = n := by omega
        subst ek
        have hpk : packed k (bt (nI q)) f (A1 68) (nI s) := hR
        have hgk := gN_k (g := gR (A1 68)) (fb_ct (bt (nI q)) k)
        have hall_ := (pk_all hn hpk).trans ⟨fun z => mA_sub z (fun y hy => ⟨in_lt hq hy, hy⟩), fun z => mA_sub z (fun y hy => hy.2)⟩
        refine z_aload_n F dX6_areTold_74 rfl ?_
        refine z_iload_n F dX6_areTold_75 rfl ?_
        refine z_callV F (c_mmatches F0 G A1 B (gR (A1 68)) (fb_ct (bt (nI q)) k) (fb_ct (bt (nI q)) k) (by omega) (Nat.le_refl _) (fun z t hz ht => (gR_eq ht).symm)) 1 rfl (lw_V q2111 q2113 qs99 q117 q2114) (by decide +kernel) ⟨Nat.le_of_ble_eq_true rfl, Nat.le_of_ble_eq_true rfl⟩ ⟨by omega, by omega⟩ [0, 1] 2 ⟨rfl, rfl, rfl, ⟨Or.inl rfl, Or.inr rfl, trivial⟩⟩ (fun h => nomatch h) (Nat.le_of_ble_eq_true rfl) ⟨⟨Or.inr trivial, Or.inl rfl, trivial⟩, rfl, rfl, rfl, Nat.le_of_ble_eq_true rfl⟩ rfl zC6 (zat_G0 rfl) rfl dX6_areTold_76 (fun r_76 w_76 hp => ?_) (fun _ _ h => h.elim)
        obtain ⟨rfl, A2, rfl, g1⟩ := hp
        refine z_weq (w' := [zH, zG _ _ _ _]) rfl ?_
        refine z_seq (S' := zi _ :: _) rfl ?_
        refine z_iload_n F dX6_areTold_79 rfl ?_
        refine z_icmp_neN F (by omega) (by omega) (tgt := 87) dX6_areTold_80 (by decide) (fun c_80 => ?_) (fun c_80 => ?_)
        · refine z_iconstB F false dX6_areTold_87 rfl ?_
          exact z_zret F E rfl (bI_nar _) dX6_areTold_88 (by omega) (by omega) (⟨false, rfl, ⟨fun z => (by cases z), fun z => absurd (hall_.mpr z) c_80⟩, A2, rfl, hA1.tr g1 (by decide) (by decide)⟩)
        · refine z_iconstB F true dX6_areTold_83 rfl ?_
          refine z_goto F (tgt := 88) dX6_areTold_84 (by decide) ?_
          exact z_zret F E rfl (bI_nar _) dX6_areTold_88 (by omega) (by omega) (⟨true, rfl, ⟨fun _ => hall_.mp c_80, fun _ => rfl⟩, A2, rfl, hA1.tr g1 (by decide) (by decide)⟩)
      · have t1 := t1 (by omega)
        have nx := fun A2 => nx A2 (by omega)
        refine z_iload_n F dX6_areTold_38 rfl ?_
        refine z_iload F dX6_areTold_39 rfl ?_
        refine z_ishr F dX6_areTold_41 ?_
        refine z_iconst F (nI 1) dX6_areTold_42 rfl ?_
        refine z_iandB F (by omega) dX6_areTold_43 ?_
        refine z_if_neB F (tgt := 50) dX6_areTold_44 (by decide) (fun c_44 => ?_) (fun c_44 => ?_)
        · refine z_aload_n F dX6_areTold_50 rfl ?_
          refine z_ma F rfl 68 rfl (Nat.le_of_ble_eq_true rfl) rfl q1548 dX6_areTold_51 ?_
          refine z_iload_n F dX6_areTold_54 rfl ?_
          refine z_aload_n F dX6_areTold_55 rfl ?_
          refine z_ma F rfl 6 rfl (Nat.le_of_ble_eq_true rfl) rfl q1486 dX6_areTold_56 ?_
          refine z_iload F dX6_areTold_59 rfl ?_
          refine z_ialdGN F rfl rfl (Nat.le_of_ble_eq_true rfl) (by omega) rfl dX6_areTold_61 ?_
          refine z_iload_n F dX6_areTold_62 rfl ?_
          refine z_iand F dX6_areTold_63 ?_
          refine z_ieq (congrArg (fun z => z &&& nI s) t1) ?_
          refine z_iastGN F rfl rfl (Nat.le_of_ble_eq_true rfl) (by omega) dX6_areTold_64 ?_
          refine z_weq (w' := [_, _]) rfl ?_
          refine z_iincN F 1 dX6_areTold_65 rfl rfl ?_
          refine z_leq (L' := [_, _, _, _, _]) rfl ?_
          refine z_iincN F 1 dX6_areTold_68 rfl rfl ?_
          refine z_leq (L' := [_, _, _, _, _]) rfl ?_
          refine z_goto F (tgt := 29) dX6_areTold_71 (by decide) ?_
          have e1 : fb_ct (bt (nI q)) (k + 1) = fb_ct (bt (nI q)) k + 1 := by rw [fb_ct_succ, c_44]; rfl
          have i1 := nx (zup2 A1 68 (fb_ct (bt (nI q)) k) (f k &&& nI s)) (frm_zup hA1 (by decide)) (fun k' hk' hb => by
            rw [zup2_row]
            show (if _ = _ then _ else A1 68 _) = _
            by_cases e : k' = k
            · rw [e, if_pos rfl]
            · have := cs_lt (sel := bt (nI q)) (show k' < k by omega) hb
              rw [if_neg (by omega)]; exact hR k' (by omega) hb)
          rw [e1] at i1
          exact i1
        · refine z_goto F (tgt := 68) dX6_areTold_47 (by decide) ?_
          refine z_iincN F 1 dX6_areTold_68 rfl rfl ?_
          refine z_leq (L' := [_, _, _, _, _]) rfl ?_
          refine z_goto F (tgt := 29) dX6_areTold_71 (by decide) ?_
          have e1 : fb_ct (bt (nI q)) (k + 1) = fb_ct (bt (nI q)) k := by rw [fb_ct_succ, c_44]; rfl
          have i1 := nx A1 hA1 (fun k' hk' hb => by
            by_cases e : k' = k
            · rw [e, c_44] at hb; cases hb
            · exact hR k' (by omega) hb)
          rw [e1] at i1
          exact i1
  have one : ∀ (m k : Nat) (A1 : Nat → Nat → Int32), 24 - k < m → k ≤ 24 → frm [68] A A1 → Z X [some (zr 1 0), some (zi (nI s)), some (zi (nI q)), some (zi (nI 0)), some (zi (nI k))] [] [zH, zG F0 G A1 B] 0 0 5 := by
    intro m
    induction m with
    | zero => intro k A1 hm; omega
    | succ m ih =>
      intro k A1 hm hk hA1
      refine z_iload F dX6_areTold_5 rfl ?_
      refine z_bipush F (nI 24) dX6_areTold_7 rfl ?_
      refine z_icmp_geN F (by omega) (by omega) (tgt := 26) dX6_areTold_9 (by decide) (fun c_9 => ?_) (fun c_9 => ?_)
      · refine z_iconst F (nI 0) dX6_areTold_26 rfl ?_
        refine z_istore F dX6_areTold_27 (Nat.le_of_ble_eq_true rfl) ?_
        refine z_leq (L' := [_, _, _, _, _]) rfl ?_
        exact two (n + 1) 0 A1 (by omega) (by omega) hA1 (fun k' hk' => absurd hk' (by omega))
      · refine z_aload_n F dX6_areTold_12 rfl ?_
        refine z_ma F rfl 68 rfl (Nat.le_of_ble_eq_true rfl) rfl q1548 dX6_areTold_13 ?_
        refine z_iload F dX6_areTold_16 rfl ?_
        refine z_iconst F (nI 0) dX6_areTold_18 rfl ?_
        refine z_iastGN F rfl rfl (Nat.le_of_ble_eq_true rfl) (by omega) dX6_areTold_19 ?_
        refine z_weq (w' := [_, _]) rfl ?_
        refine z_iincN F 1 dX6_areTold_20 rfl rfl ?_
        refine z_leq (L' := [_, _, _, _, _]) rfl ?_
        refine z_goto F (tgt := 5) dX6_areTold_23 (by decide) ?_
        exact ih (k + 1) _ (by omega) (by omega) (frm_zup hA1 (by decide))
  refine z_iconst F (nI 0) dX6_areTold_0 rfl ?_
  refine z_istore_n F dX6_areTold_1 (Nat.le_of_ble_eq_true rfl) ?_
  refine z_leq (L' := [_, _, _, _, _]) rfl ?_
  refine z_iconst F (nI 0) dX6_areTold_2 rfl ?_
  refine z_istore F dX6_areTold_3 (Nat.le_of_ble_eq_true rfl) ?_
  refine z_leq (L' := [_, _, _, _, _]) rfl ?_
  exact one 25 0 A (by omega) (by omega) frm.rf
end C9yl
end
section
/-! tell: the reference's operation -/
section C9ym
theorem bt_tb {n x k : Nat} (hx : x < 2 ^ n) (hn : n ≤ 24) : bt (nI x) k = x.testBit k := by
  rcases Nat.lt_or_ge k 32 with q | q
  · exact bt_nI q
  · rw [b_big q, Nat.testBit_lt_two_pow (Nat.lt_of_lt_of_le hx (Nat.pow_le_pow_right (by decide) (by omega)))]
/-- the next subset below -/
theorem smk {n x r : Nat} (hn : n ≤ 24) (hx : 0 < x) (hxn : x < 2 ^ n) (hr : r < 2 ^ n) (hxr : ∀ i, bt (nI x) i = true → bt (nI r) i = true) : ∃ y, y < x ∧ (nI x - nI 1) &&& nI r = nI y ∧ (∀ i, bt (nI y) i = true → bt (nI r) i = true) ∧ ∀ q, q < x → (∀ i, bt (nI q) i = true → bt (nI r) i = true) → q ≤ y := by
  have hp : 2 ^ n ≤ 2 ^ 24 := Nat.pow_le_pow_right (by decide) hn
  have hx0 : ¬ nI x = 0 := fun e => by
    have := (nI_eq (show x < 2 ^ 31 by omega) (show 0 < 2 ^ 31 by omega)).mp e
    omega
  obtain ⟨i, hi, h1, h0⟩ := exists_low hx0
  obtain ⟨y, y1, y2⟩ := msk_of (M := (nI x - nI 1) &&& nI r) hn (fun k hk => by
    rw [b_and, Bool.and_eq_true] at hk
    exact in_lt hr hk.2)
  have by_ : ∀ k, y.testBit k = ((if k < i then true else (x.testBit k && !decide (k = i))) && r.testBit k) := fun k => by
    rw [← bt_tb y1 hn, ← y2, b_and, bt_pred hi h1 h0, bt_tb hxn hn, bt_tb hr hn]
  have bx0 : ∀ k, k < i → x.testBit k = false := fun k hk => by rw [← bt_tb hxn hn]; exact h0 k hk
  have bx1 : x.testBit i = true := by rw [← bt_tb hxn hn]; exact h1
  have bxr : ∀ k, x.testBit k = true → r.testBit k = true := fun k hk => by
    rw [← bt_tb hr hn]; exact hxr k (by rw [bt_tb hxn hn]; exact hk)
  have byh : ∀ k, i < k → y.testBit k = x.testBit k := fun k hk => by
    rw [by_ k, if_neg (by omega), decide_eq_false (show ¬ k = i by omega)]
    cases hb : x.testBit k with
    | false => rfl
    | true => rw [bxr k hb]; rfl
  have byi : y.testBit i = false := by
    rw [by_ i, if_neg (by omega), decide_eq_true rfl, Bool.not_true, Bool.and_false, Bool.false_and]
  refine ⟨y, Nat.lt_of_testBit i byi bx1 byh, y2, fun k hk => ?_, fun q hq hqr => ?_⟩
  · rw [← y2, b_and, Bool.and_eq_true] at hk
    exact hk.2
  · refine Nat.le_of_not_lt fun hyq => ?_
    have hqn : q < 2 ^ n := by omega
    have bqr : ∀ k, q.testBit k = true → r.testBit k = true := fun k hk => by
      rw [← bt_tb hr hn]; exact hqr k (by rw [bt_tb hqn hn]; exact hk)
    have e1 : y / 2 ^ (i + 1) = x / 2 ^ (i + 1) := Nat.eq_of_testBit_eq fun k => by
      rw [Nat.testBit_div_two_pow, Nat.testBit_div_two_pow]
      exact byh _ (by omega)
    have e2 : q / 2 ^ (i + 1) = x / 2 ^ (i + 1) := Nat.le_antisymm (Nat.div_le_div_right (Nat.le_of_lt hq)) (by rw [← e1]; exact Nat.div_le_div_right (Nat.le_of_lt hyq))
    have bqx : ∀ k, i < k → q.testBit k = x.testBit k := fun k hk => by
      have h9 := congrArg (fun z => z.testBit (k - (i + 1))) e2
      simp only [Nat.testBit_div_two_pow] at h9
      rw [show k - (i + 1) + (i + 1) = k by omega] at h9
      exact h9
    by_cases hqi : q.testBit i = true
    · have e3 : x &&& q = x := Nat.eq_of_testBit_eq fun k => by
        rw [Nat.testBit_and]
        rcases Nat.lt_trichotomy k i with c | c | c
        · rw [bx0 k c]; rfl
        · rw [c, bx1, hqi]; rfl
        · rw [bqx k c, Bool.and_self]
      have : x &&& q ≤ q := Nat.and_le_right
      omega
    · have e3 : q &&& y = q := Nat.eq_of_testBit_eq fun k => by
        rw [Nat.testBit_and]
        rcases Nat.lt_trichotomy k i with c | c | c
        · rw [by_ k, if_pos c, Bool.true_and]
          cases hb : q.testBit k with
          | false => rfl
          | true => rw [bqr k hb]; rfl
        · rw [c, ff_of hqi]; rfl
        · rw [byh k c, bqx k c, Bool.and_self]
      have : q &&& y ≤ y := Nat.and_le_right
      omega
abbrev tlL : List Nat := [6, 23, 68, 69, 70, 71, 73, 74]
theorem c_mtell_ok (F0 : Nat → Int32) (G : Nat → Int64) (A : Nat → Nat → Int32) (B : Nat → Nat → Int64) (j n d v : Nat) (f : Nat → Int32) (hj : j < 8) (h : nok n d f) (hs : Slt A j n (nI d) f) (hv : v < n) (hfr : ∀ c, c < 1024 → A 74 c = nI 0) :
    zCtr yX6_tell cX6_tell 8 (some .int) 5 0 0 [zr 1 0, zi (nI j), zi (nI v)] [zH, zG F0 G A B] (fun r w => ((n ≤ 10 ∧ cjn n f = true ∧ ∃ ro, ro ≤ 24 ∧ r = some (zi (nI ro)) ∧ (∀ r', r' < ro → ¬ mF n f v r' (2 ^ n - 1)) ∧ mF n f v ro (2 ^ n - 1)) ∨ (¬ (n ≤ 10 ∧ cjn n f = true) ∧ r = some (zi (-1)))) ∧ ∃ F' A', w = [zH, zG F' G A' B] ∧ F' 0 = nI 0 ∧ frm [0, 4, 5, 24, 25] F0 F' ∧ frm tlL A A' ∧ ∀ c, c < 1024 → A' 74 c = nI 0) zNx := by
  refine z_start (by decide) [some (zr 1 0), some (zi (nI j)), some (zi (nI v)), none, none, none, none, none] rfl (fun _ => Nat.le_of_ble_eq_true rfl) (fun _ => rfl) (fun X F E hno hin => ?_)
  have hn1 := h.n1
  have hn := h.n24
  have main : ∀ (F1 : Nat → Int32) (A0 : Nat → Nat → Int32), n ≤ 10 → cjn n f = true → F1 0 = nI 0 → F1 4 = nI n → frm [0, 4, 5, 24, 25] F0 F1 → frm tlL A A0 → (∀ k, k < n → A0 6 k = f k) → (∀ c, c < 1024 → A0 74 c = nI 0) → Z X [some (zr 1 0), some (zi (nI j)), some (zi (nI v)), none, none, none, none, none] [] [zH, zG F1 G A0 B] 0 0 41 := by
    intro F1 A0 h10 hcj f0 f4 hF hA0 hf0 h740
    have hp2 : 2 ^ n ≤ 2 ^ 10 := Nat.pow_le_pow_right (by decide) h10
    have hp1 : 1 ≤ 2 ^ n := Nat.one_le_two_pow
    have hv2 : 2 ^ v < 2 ^ n := two_lt hv
    have hc := (cjn_conn h.n1 h.n24 (fun a b ha hb => h.sym ha hb)).mp hcj
    have eal : allB n = nI (2 ^ n - 1) := al_nI hn
    obtain ⟨r0, hr0, hm0⟩ := tl_ex h hc hv
    have hle : ∀ ro, (∀ r', r' < ro → ¬ mF n f v r' (2 ^ n - 1)) → ro ≤ 24 := fun ro hlo => Nat.le_of_not_lt fun z => hlo r0 (by omega) hm0
    have lp : ∀ (u ro : Nat) (A1 : Nat → Nat → Int32) (Kn : Nat → Bool), 25 - ro < u → (∀ r', r' < ro → ¬ mF n f v r' (2 ^ n - 1)) → frm tlL A A1 → (∀ k, k < n → A1 6 k = f k) → (∀ c, c < 1024 → A1 73 c = bI (Kn c)) → (∀ c, c < 1024 → (Kn c = true ↔ mF n f v ro c)) → (∀ c, c < 1024 → A1 74 c = nI 0) → Z X [some (zr 1 0), some (zi (nI j)), some (zi (nI v)), some (zi (nI ro)), none, none, none, none] [] [zH, zG F1 G A1 B] 0 0 74 := by
      intro u
      induction u with
      | zero => intro ro A1 Kn hu hlo; have := hle ro hlo; omega
      | succ u ih =>
        intro ro A1 Kn hu hlo hA1 hf1 h73 hKn h74
        have h24 := hle ro hlo
        have t73 := h73 (2 ^ n - 1) (by omega)
        have hend : Kn (2 ^ n - 1) = false → ∀ r', r' < ro + 1 → ¬ mF n f v r' (2 ^ n - 1) := fun hk r' hr' => by
          by_cases e : r' = ro
          · rw [e, ← hKn _ (by omega), hk]; decide
          · exact hlo r' (by omega)
        have cpy : Kn (2 ^ n - 1) = false → ∀ (Fr : Nat → Bool), (∀ c, c < 1024 → (Fr c = true ↔ mF n f v (ro + 1) c)) → ∀ (m c0 : Nat) (A2 : Nat → Nat → Int32), 1024 - c0 < m → c0 ≤ 1024 → frm tlL A A2 → (∀ k, k < n → A2 6 k = f k) → (∀ c, c < c0 → A2 73 c = bI (Fr c) ∧ A2 74 c = nI 0) → (∀ c, c0 ≤ c → c < 1024 → A2 74 c = bI (Fr c)) → Z X [some (zr 1 0), some (zi (nI j)), some (zi (nI v)), some (zi (nI (ro + 1))), some (zi (nI c0)), none, none, none] [] [zH, zG F1 G A2 B] 0 0 202 := by
          intro hk Fr hFr m
          induction m with
          | zero => intro c0 A2 hm; omega
          | succ m ih2 =>
            intro c0 A2 hm hc0 hA2 hf2 hlo2 hhi
            have t1 := fun z => hhi c0 (Nat.le_refl _) z
            refine z_iload F dX6_tell_202 rfl ?_
            refine z_sipush F (nI 1024) dX6_tell_204 rfl ?_
            refine z_icmp_geN F (by omega) (by omega) (tgt := 238) dX6_tell_207 (by decide) (fun c_207 => ?_) (fun c_207 => ?_)
            · refine z_goto F (tgt := 74) dX6_tell_238 (by decide) ?_
              refine z_loc _ ?_ (ih (ro + 1) A2 Fr (by omega) (hend hk) hA2 hf2 (fun c hc => (hlo2 c (by omega)).1) hFr (fun c hc => (hlo2 c (by omega)).2))
              exact ⟨rfl, rfl, rfl, rfl, trivial⟩
            · have t1 := t1 (by omega)
              refine z_aload_n F dX6_tell_210 rfl ?_
              refine z_ma F rfl 73 rfl (Nat.le_of_ble_eq_true rfl) rfl q1553 dX6_tell_211 ?_
              refine z_iload F dX6_tell_214 rfl ?_
              refine z_aload_n F dX6_tell_216 rfl ?_
              refine z_ma F rfl 74 rfl (Nat.le_of_ble_eq_true rfl) rfl q1554 dX6_tell_217 ?_
              refine z_iload F dX6_tell_220 rfl ?_
              refine z_zaldGN F rfl rfl (Nat.le_of_ble_eq_true rfl) (by omega) rfl dX6_tell_222 ?_
              refine z_zastGN F rfl rfl (Nat.le_of_ble_eq_true rfl) (by omega) dX6_tell_223 ?_
              refine z_weq (w' := [_, _]) rfl ?_
              refine z_aload_n F dX6_tell_224 rfl ?_
              refine z_ma F rfl 74 rfl (Nat.le_of_ble_eq_true rfl) rfl q1554 dX6_tell_225 ?_
              refine z_iload F dX6_tell_228 rfl ?_
              refine z_iconst F (nI 0) dX6_tell_230 rfl ?_
              refine z_zastGN F rfl rfl (Nat.le_of_ble_eq_true rfl) (by omega) dX6_tell_231 ?_
              refine z_weq (w' := [_, _]) rfl ?_
              refine z_iincN F 1 dX6_tell_232 rfl rfl ?_
              refine z_leq (L' := [_, _, _, _, _, _, _, _]) rfl ?_
              refine z_goto F (tgt := 202) dX6_tell_235 (by decide) ?_
              refine ih2 (c0 + 1) _ (by omega) (by omega) (frm_zup (frm_zup hA2 (by decide)) (by decide)) (fun k hk => ?_) (fun c hc => ?_) (fun c hc1 hc2 => ?_)
              · rw [zup2_ne (by decide), zup2_ne (by decide)]; exact hf2 k hk
              · rw [zup2_ne (show 73 ≠ 74 by decide), zup2_row, zup2_row]
                show (if c = c0 then _ else A2 73 c) = _ ∧ (if c = c0 then _ else zup2 A2 73 c0 _ 74 c) = _
                by_cases e : c = c0
                · rw [if_pos e, if_pos e, e, t1, nar_bI]; exact ⟨rfl, rfl⟩
                · rw [if_neg e, if_neg e, zup2_ne (show 74 ≠ 73 by decide)]; exact hlo2 c (by omega)
              · rw [zup2_row]
                show (if c = c0 then _ else zup2 A2 73 c0 _ 74 c) = _
                rw [if_neg (show ¬ c = c0 by omega), zup2_ne (show 74 ≠ 73 by decide)]; exact hhi c (by omega) hc2
        have sets : Kn (2 ^ n - 1) = false → ∀ (m s : Nat) (A2 : Nat → Nat → Int32) (Fr : Nat → Bool), s < m → s < 2 ^ n → frm tlL A A2 → (∀ k, k < n → A2 6 k = f k) → (∀ c, c ≤ s → A2 73 c = bI (Kn c)) → (∀ c, c < 1024 → A2 74 c = bI (Fr c)) → (∀ c, c < 1024 → (Fr c = true ↔ ∃ s', s < s' ∧ s' < 2 ^ n ∧ Kn s' = true ∧ ∃ q, mSt n f s' q ∧ nI c = nI s' ||| nI q)) → Z X [some (zr 1 0), some (zi (nI j)), some (zi (nI v)), some (zi (nI (ro + 1))), some (zi (nI s)), none, none, none] [] [zH, zG F1 G A2 B] 0 0 95 := by
          intro hk m
          induction m with
          | zero => intro s A2 Fr hm; omega
          | succ m ih2 =>
            intro s A2 Fr hm hs2 hA2 hf2 h732 h742 hFr
            have t1 := h732 s (Nat.le_refl _)
            obtain ⟨rN, r1, r2⟩ := msk_of (M := allB n &&& (nI s ^^^ (-1))) hn (fun k hk => by
              rw [b_and, Bool.and_eq_true] at hk
              exact al_lt hn k hk.1)
            have hrb : ∀ k, bt (nI rN) k = true ↔ (k < n ∧ bt (nI s) k = false) := fun k => by
              rw [← r2, b_and, bt_allB hn, Bool.and_eq_true, decide_eq_true_eq]
              refine and_congr_right fun hkn => ?_
              rw [bt_not _ (by omega)]
              cases bt (nI s) k <;> decide
            have subs : 0 < s → Kn s = true → ∀ (p x : Nat) (A3 : Nat → Nat → Int32) (Fr3 : Nat → Bool), x < p → x < 2 ^ n → (∀ i, bt (nI x) i = true → bt (nI rN) i = true) → frm tlL A A3 → (∀ k, k < n → A3 6 k = f k) → (∀ c, c < s → A3 73 c = bI (Kn c)) → (∀ c, c < 1024 → A3 74 c = bI (Fr3 c)) → (∀ c, c < 1024 → (Fr3 c = true ↔ (Fr c = true ∨ ∃ q, x < q ∧ mSt n f s q ∧ nI c = nI s ||| nI q))) → Z X [some (zr 1 0), some (zi (nI j)), some (zi (nI v)), some (zi (nI (ro + 1))), some (zi (nI s)), some (zi (nI (mostT n f (nI s)))), some (zi (nI rN)), some (zi (nI x))] [] [zH, zG F1 G A3 B] 0 0 144 := by
              intro hs0 hKs p
              induction p with
              | zero => intro x A3 Fr3 hp; omega
              | succ p ih3 =>
                intro x A3 Fr3 hp hx hxr hA3 hf3 h733 h743 hFr3
                have hmT : mostT n f (nI s) ≤ n := gN_k n
                have hpc := pc32_le (nI x)
                have nxt : 0 < x → ∃ y, y < x ∧ (nI x - nI 1) &&& nI rN = nI y ∧ (∀ i, bt (nI y) i = true → bt (nI rN) i = true) ∧ ∀ q, q < x → (∀ i, bt (nI q) i = true → bt (nI rN) i = true) → q ≤ y := fun hx0 => smk hn hx0 hx r1 hxr
                have hsub : ∀ q, mSt n f s q → ∀ i, bt (nI q) i = true → bt (nI rN) i = true := fun q hq i hb => (hrb i).mpr ⟨in_lt hq.2.1 hb, hq.2.2.1 i hb⟩
                have cont : ∀ (y : Nat) (A4 : Nat → Nat → Int32) (Fr4 : Nat → Bool), 0 < x → y < x → (∀ i, bt (nI y) i = true → bt (nI rN) i = true) → (∀ q, q < x → (∀ i, bt (nI q) i = true → bt (nI rN) i = true) → q ≤ y) → frm tlL A A4 → (∀ k, k < n → A4 6 k = f k) → (∀ c, c < s → A4 73 c = bI (Kn c)) → (∀ c, c < 1024 → A4 74 c = bI (Fr4 c)) → (∀ c, c < 1024 → (Fr4 c = true ↔ (Fr3 c = true ∨ (mSt n f s x ∧ nI c = nI s ||| nI x)))) → Z X [some (zr 1 0), some (zi (nI j)), some (zi (nI v)), some (zi (nI (ro + 1))), some (zi (nI s)), some (zi (nI (mostT n f (nI s)))), some (zi (nI rN)), some (zi (nI y))] [] [zH, zG F1 G A4 B] 0 0 144 := by
                  intro y A4 Fr4 hx0 hyx hyr hyq hA4 hf4 h734 h744 hFr4
                  refine ih3 y A4 Fr4 (by omega) (by omega) hyr hA4 hf4 h734 h744 (fun c hc => ?_)
                  rw [hFr4 c hc, hFr3 c hc]
                  constructor
                  · rintro ((a | ⟨q, a, b, e⟩) | ⟨b, e⟩)
                    · exact Or.inl a
                    · exact Or.inr ⟨q, by omega, b, e⟩
                    · exact Or.inr ⟨x, hyx, b, e⟩
                  · rintro (a | ⟨q, a, b, e⟩)
                    · exact Or.inl (Or.inl a)
                    · by_cases e2 : q = x
                      · rw [e2] at b e; exact Or.inr ⟨b, e⟩
                      · refine Or.inl (Or.inr ⟨q, ?_, b, e⟩)
                        refine Nat.lt_of_not_le fun z => ?_
                        have := hyq q (by omega) (hsub q b)
                        omega
                refine z_iload F dX6_tell_144 rfl ?_
                refine z_if_leN F (by omega) (tgt := 193) dX6_tell_146 (by decide) (fun c_146 => ?_) (fun c_146 => ?_)
                · refine z_loc [some (zr 1 0), some (zi (nI j)), some (zi (nI v)), some (zi (nI (ro + 1))), some (zi (nI s)), none, none, none] ⟨rfl, rfl, rfl, rfl, rfl, trivial⟩ ?_
                  refine z_idecN F (by omega) dX6_tell_193 rfl rfl ?_
                  refine z_leq (L' := [_, _, _, _, _, _, _, _]) rfl ?_
                  refine z_goto F (tgt := 95) dX6_tell_196 (by decide) ?_
                  refine ih2 (s - 1) A3 Fr3 (by omega) (by omega) hA3 hf3 (fun c hc => h733 c (by omega)) h743 (fun c hc => ?_)
                  rw [hFr3 c hc, hFr c hc]
                  constructor
                  · rintro (⟨s', a, b⟩ | ⟨q, a, b, e⟩)
                    · exact ⟨s', by omega, b⟩
                    · exact ⟨s, by omega, hs2, hKs, q, b, e⟩
                  · rintro ⟨s', a, b, e, q, e2, e3⟩
                    by_cases e4 : s' = s
                    · rw [e4] at e2 e3; exact Or.inr ⟨q, by have := e2.1; omega, e2, e3⟩
                    · exact Or.inl ⟨s', by omega, b, e, q, e2, e3⟩
                · obtain ⟨y, y1, y2, y3, y4⟩ := nxt (by omega)
                  obtain ⟨c9, e9, e8⟩ := or_lt hn hs2 hx
                  refine z_iload F dX6_tell_149 rfl ?_
                  refine z_callS F (c_bits (nI x)) 1 rfl (lw_S q1752 q1753 q117 q1754) (by decide +kernel) ⟨Nat.le_of_ble_eq_true rfl, Nat.le_of_ble_eq_true rfl⟩ ⟨by omega, by omega⟩ [0] 2 ⟨rfl, rfl, rfl, ⟨Or.inl rfl, trivial⟩⟩ (fun h => nomatch h) (Nat.le_of_ble_eq_true rfl) ⟨⟨Or.inr trivial, Or.inr trivial, trivial⟩, rfl, rfl, rfl, Nat.le_of_ble_eq_true rfl⟩ rfl rfl dX6_tell_151 (fun r_151 w_151 hp => ?_) (fun _ _ h => h.elim)
                  obtain ⟨rfl, rfl⟩ := hp
                  refine z_weq (w' := [zH, zG _ _ _ _]) rfl ?_
                  refine z_seq (S' := zi _ :: _) rfl ?_
                  refine z_iload F dX6_tell_154 rfl ?_
                  refine z_icmp_neN F (by omega) (by omega) (tgt := 181) dX6_tell_156 (by decide) (fun c_156 => ?_) (fun c_156 => ?_)
                  · refine z_iload F dX6_tell_181 rfl ?_
                    refine z_iconst F (nI 1) dX6_tell_183 rfl ?_
                    refine z_isub F dX6_tell_184 ?_
                    refine z_iload F dX6_tell_185 rfl ?_
                    refine z_iand F dX6_tell_187 ?_
                    refine z_ieq (y2) ?_
                    refine z_istore F dX6_tell_188 (Nat.le_of_ble_eq_true rfl) ?_
                    refine z_leq (L' := [_, _, _, _, _, _, _, _]) rfl ?_
                    refine z_goto F (tgt := 144) dX6_tell_190 (by decide) ?_
                    exact cont y A3 Fr3 (by omega) y1 y3 y4 hA3 hf3 h733 h743 (fun c hc => ⟨Or.inl, fun z => z.elim id (fun z => absurd z.1.2.2.2.1 c_156)⟩)
                  · refine z_aload_n F dX6_tell_159 rfl ?_
                    refine z_iload F dX6_tell_160 rfl ?_
                    refine z_iload F dX6_tell_162 rfl ?_
                    refine z_callV F (c_mareTold F1 G A3 B n s x f hn hx f4 hf3) 2 rfl (lw_V q2143 q2145 qs105 q117 q2146) (by decide +kernel) ⟨Nat.le_of_ble_eq_true rfl, Nat.le_of_ble_eq_true rfl⟩ ⟨by omega, by omega⟩ [0, 1] 2 ⟨rfl, rfl, rfl, ⟨Or.inl rfl, Or.inr rfl, trivial⟩⟩ (fun h => nomatch h) (Nat.le_of_ble_eq_true rfl) ⟨⟨Or.inr trivial, Or.inl rfl, trivial⟩, rfl, rfl, rfl, Nat.le_of_ble_eq_true rfl⟩ rfl zC6 (zat_G0 rfl) rfl dX6_tell_164 (fun r_164 w_164 hp => ?_) (fun _ _ h => h.elim)
                    obtain ⟨b, rfl, hb, A4, rfl, g4⟩ := hp
                    refine z_weq (w' := [zH, zG _ _ _ _]) rfl ?_
                    refine z_seq (S' := zi _ :: _) rfl ?_
                    refine z_if_eqB F (tgt := 181) dX6_tell_167 (by decide) (fun c_167 => ?_) (fun c_167 => ?_)
                    · refine z_iload F dX6_tell_181 rfl ?_
                      refine z_iconst F (nI 1) dX6_tell_183 rfl ?_
                      refine z_isub F dX6_tell_184 ?_
                      refine z_iload F dX6_tell_185 rfl ?_
                      refine z_iand F dX6_tell_187 ?_
                      refine z_ieq (y2) ?_
                      refine z_istore F dX6_tell_188 (Nat.le_of_ble_eq_true rfl) ?_
                      refine z_leq (L' := [_, _, _, _, _, _, _, _]) rfl ?_
                      refine z_goto F (tgt := 144) dX6_tell_190 (by decide) ?_
                      exact cont y A4 Fr3 (by omega) y1 y3 y4 (hA3.tr g4 (by decide) (by decide)) (fun k hk => by rw [g4.at 6 rfl]; exact hf3 k hk) (fun c hc => by rw [g4.at 73 rfl]; exact h733 c hc) (fun c hc => by rw [g4.at 74 rfl]; exact h743 c hc) (fun c hc => ⟨Or.inl, fun z => z.elim id (fun z => by rw [hb.mpr z.1.2.2.2.2] at c_167; cases c_167)⟩)
                    · refine z_aload_n F dX6_tell_170 rfl ?_
                      refine z_ma F rfl 74 rfl (Nat.le_of_ble_eq_true rfl) rfl q1554 dX6_tell_171 ?_
                      refine z_iload F dX6_tell_174 rfl ?_
                      refine z_iload F dX6_tell_176 rfl ?_
                      refine z_ior F dX6_tell_178 ?_
                      refine z_ieq (e8.symm) ?_
                      refine z_iconstB F true dX6_tell_179 rfl ?_
                      refine z_zastGN F rfl rfl (Nat.le_of_ble_eq_true rfl) (by omega) dX6_tell_180 ?_
                      refine z_weq (w' := [_, _]) rfl ?_
                      refine z_iload F dX6_tell_181 rfl ?_
                      refine z_iconst F (nI 1) dX6_tell_183 rfl ?_
                      refine z_isub F dX6_tell_184 ?_
                      refine z_iload F dX6_tell_185 rfl ?_
                      refine z_iand F dX6_tell_187 ?_
                      refine z_ieq (y2) ?_
                      refine z_istore F dX6_tell_188 (Nat.le_of_ble_eq_true rfl) ?_
                      refine z_leq (L' := [_, _, _, _, _, _, _, _]) rfl ?_
                      refine z_goto F (tgt := 144) dX6_tell_190 (by decide) ?_
                      refine cont y (zup2 A4 74 c9 (vp_nar .boolean (nI 1))) (fun c => if c = c9 then true else Fr3 c) (by omega) y1 y3 y4 (frm_zup (hA3.tr g4 (by decide) (by decide)) (by decide)) (fun k hk => by rw [zup2_ne (by decide), g4.at 6 rfl]; exact hf3 k hk) (fun c hc => by rw [zup2_ne (by decide), g4.at 73 rfl]; exact h733 c hc) (fun c hc => ?_) (fun c hc => ?_)
                      · rw [zup2_row, g4.at 74 rfl]
                        show (if c = c9 then _ else A3 74 c) = bI (if c = c9 then true else Fr3 c)
                        by_cases e : c = c9
                        · rw [if_pos e, if_pos e]; rfl
                        · rw [if_neg e, if_neg e]; exact h743 c hc
                      · have hst : mSt n f s x := ⟨by omega, hx, fun k hk => ((hrb k).mp (hxr k hk)).2, c_156, hb.mp c_167⟩
                        show (if c = c9 then true else Fr3 c) = true ↔ _
                        rw [← e8, nI_eq (show c < 2 ^ 31 by omega) (show c9 < 2 ^ 31 by omega)]
                        by_cases e : c = c9
                        · rw [if_pos e]; exact ⟨fun _ => Or.inr ⟨hst, e⟩, fun _ => rfl⟩
                        · rw [if_neg e]; exact ⟨Or.inl, fun z => z.elim id (fun z => absurd z.2 e)⟩
            refine z_iload F dX6_tell_95 rfl ?_
            refine z_if_leN F (by omega) (tgt := 199) dX6_tell_97 (by decide) (fun c_97 => ?_) (fun c_97 => ?_)
            · refine z_iconst F (nI 0) dX6_tell_199 rfl ?_
              refine z_istore F dX6_tell_200 (Nat.le_of_ble_eq_true rfl) ?_
              refine z_leq (L' := [_, _, _, _, _, _, _, _]) rfl ?_
              have es : s = 0 := by omega
              refine cpy hk Fr (fun c hc => ?_) 1025 0 A2 (by omega) (by omega) hA2 hf2 (fun c hc => absurd hc (by omega)) (fun c _ hc => h742 c hc)
              rw [hFr c hc, es]
              constructor
              · rintro ⟨s', a, b, e, q, e2, e3⟩
                obtain ⟨c9, k1, k2⟩ := or_lt hn b e2.2.1
                have : c = c9 := (nI_eq (show c < 2 ^ 31 by omega) (show c9 < 2 ^ 31 by omega)).mp (e3.trans k2.symm)
                exact ⟨by omega, s', a, b, (hKn s' (by omega)).mp e, q, e2, e3⟩
              · rintro ⟨a, s', a2, b, e, q, e2, e3⟩
                exact ⟨s', a2, b, (hKn s' (by omega)).mpr e, q, e2, e3⟩
            · refine z_aload_n F dX6_tell_100 rfl ?_
              refine z_ma F rfl 73 rfl (Nat.le_of_ble_eq_true rfl) rfl q1553 dX6_tell_101 ?_
              refine z_iload F dX6_tell_104 rfl ?_
              refine z_zaldGN F rfl rfl (Nat.le_of_ble_eq_true rfl) (by omega) rfl dX6_tell_106 ?_
              refine z_ieq (t1) ?_
              refine z_if_neB F (tgt := 113) dX6_tell_107 (by decide) (fun c_107 => ?_) (fun c_107 => ?_)
              · refine z_aload_n F dX6_tell_113 rfl ?_
                refine z_ma F rfl 73 rfl (Nat.le_of_ble_eq_true rfl) rfl q1553 dX6_tell_114 ?_
                refine z_iload F dX6_tell_117 rfl ?_
                refine z_iconst F (nI 0) dX6_tell_119 rfl ?_
                refine z_zastGN F rfl rfl (Nat.le_of_ble_eq_true rfl) (by omega) dX6_tell_120 ?_
                refine z_weq (w' := [_, _]) rfl ?_
                refine z_aload_n F dX6_tell_121 rfl ?_
                refine z_iload F dX6_tell_122 rfl ?_
                refine z_callV F (c_mtoldAt F1 G (zup2 A2 73 s (vp_nar .boolean (nI 0))) B n s f hn hs2 f4 (fun k hk => by rw [zup2_ne (by decide)]; exact hf2 k hk)) 1 rfl (lw_V q2139 q2141 qs104 q117 q2142) (by decide +kernel) ⟨Nat.le_of_ble_eq_true rfl, Nat.le_of_ble_eq_true rfl⟩ ⟨by omega, by omega⟩ [0, 1] 2 ⟨rfl, rfl, rfl, ⟨Or.inl rfl, Or.inr rfl, trivial⟩⟩ (fun h => nomatch h) (Nat.le_of_ble_eq_true rfl) ⟨⟨Or.inr trivial, Or.inl rfl, trivial⟩, rfl, rfl, rfl, Nat.le_of_ble_eq_true rfl⟩ rfl zC6 (zat_G0 rfl) rfl dX6_tell_124 (fun r_124 w_124 hp => ?_) (fun _ _ h => h.elim)
                obtain ⟨rfl, A3, rfl, g3⟩ := hp
                refine z_weq (w' := [zH, zG _ _ _ _]) rfl ?_
                refine z_seq (S' := zi _ :: _) rfl ?_
                refine z_istore F dX6_tell_127 (Nat.le_of_ble_eq_true rfl) ?_
                refine z_leq (L' := [_, _, _, _, _, _, _, _]) rfl ?_
                refine z_aload_n F dX6_tell_129 rfl ?_
                refine z_callV F (c_mall F1 G A3 B n hn f4) 0 rfl (lw_V q1880 q1882 qs63 q117 q1883) (by decide +kernel) ⟨Nat.le_of_ble_eq_true rfl, Nat.le_of_ble_eq_true rfl⟩ ⟨by omega, by omega⟩ [0, 1] 2 ⟨rfl, rfl, rfl, ⟨Or.inl rfl, Or.inr rfl, trivial⟩⟩ (fun h => nomatch h) (Nat.le_of_ble_eq_true rfl) ⟨⟨Or.inr trivial, Or.inl rfl, trivial⟩, rfl, rfl, rfl, Nat.le_of_ble_eq_true rfl⟩ rfl zC6 (zat_G0 rfl) rfl dX6_tell_130 (fun r_130 w_130 hp => ?_) (fun _ _ h => h.elim)
                obtain ⟨rfl, rfl⟩ := hp
                refine z_weq (w' := [zH, zG _ _ _ _]) rfl ?_
                refine z_seq (S' := zi _ :: _) rfl ?_
                refine z_iload F dX6_tell_133 rfl ?_
                refine z_iconst F (-1) dX6_tell_135 rfl ?_
                refine z_ixor F dX6_tell_136 ?_
                refine z_iand F dX6_tell_137 ?_
                refine z_ieq (r2) ?_
                refine z_istore F dX6_tell_138 (Nat.le_of_ble_eq_true rfl) ?_
                refine z_leq (L' := [_, _, _, _, _, _, _, _]) rfl ?_
                refine z_iload F dX6_tell_140 rfl ?_
                refine z_istore F dX6_tell_142 (Nat.le_of_ble_eq_true rfl) ?_
                refine z_leq (L' := [_, _, _, _, _, _, _, _]) rfl ?_
                refine subs (by omega) c_107 (rN + 1) rN A3 Fr (by omega) r1 (fun i hi => hi) ((frm_zup hA2 (by decide)).tr g3 (by decide) (by decide)) (fun k hk => by rw [g3.at 6 rfl, zup2_ne (by decide)]; exact hf2 k hk) (fun c hc => ?_) (fun c hc => by rw [g3.at 74 rfl, zup2_ne (by decide)]; exact h742 c hc) (fun c hc => ?_)
                · rw [g3.at 73 rfl, zup2_row]
                  show (if c = s then _ else A2 73 c) = _
                  rw [if_neg (by omega)]; exact h732 c (by omega)
                · refine ⟨Or.inl, fun z => z.elim id (fun ⟨q, a, b, e⟩ => ?_)⟩
                  have hqr : ∀ i, bt (nI q) i = true → bt (nI rN) i = true := fun i hb => (hrb i).mpr ⟨in_lt b.2.1 hb, b.2.2.1 i hb⟩
                  have e3 : q &&& rN = q := Nat.eq_of_testBit_eq fun k => by
                    rw [Nat.testBit_and]
                    cases hb : q.testBit k with
                    | false => rfl
                    | true => rw [← bt_tb r1 hn, hqr k (by rw [bt_tb b.2.1 hn]; exact hb)]; rfl
                  have : q &&& rN ≤ rN := Nat.and_le_right
                  omega
              · refine z_goto F (tgt := 193) dX6_tell_110 (by decide) ?_
                refine z_idecN F (by omega) dX6_tell_193 rfl rfl ?_
                refine z_leq (L' := [_, _, _, _, _, _, _, _]) rfl ?_
                refine z_goto F (tgt := 95) dX6_tell_196 (by decide) ?_
                refine ih2 (s - 1) A2 Fr (by omega) (by omega) hA2 hf2 (fun c hc => h732 c (by omega)) h742 (fun c hc => ?_)
                rw [hFr c hc]
                constructor
                · rintro ⟨s', a, b⟩
                  exact ⟨s', by omega, b⟩
                · rintro ⟨s', a, b, e, q⟩
                  by_cases e4 : s' = s
                  · rw [e4, c_107] at e; cases e
                  · exact ⟨s', by omega, b, e, q⟩
        refine z_aload_n F dX6_tell_74 rfl ?_
        refine z_ma F rfl 73 rfl (Nat.le_of_ble_eq_true rfl) rfl q1553 dX6_tell_75 ?_
        refine z_aload_n F dX6_tell_78 rfl ?_
        refine z_callV F (c_mall F1 G A1 B n hn f4) 0 rfl (lw_V q1880 q1882 qs63 q117 q1883) (by decide +kernel) ⟨Nat.le_of_ble_eq_true rfl, Nat.le_of_ble_eq_true rfl⟩ ⟨by omega, by omega⟩ [0, 1] 2 ⟨rfl, rfl, rfl, ⟨Or.inl rfl, Or.inr rfl, trivial⟩⟩ (fun h => nomatch h) (Nat.le_of_ble_eq_true rfl) ⟨⟨Or.inr trivial, Or.inl rfl, trivial⟩, rfl, rfl, rfl, Nat.le_of_ble_eq_true rfl⟩ rfl zC6 (zat_G0 rfl) rfl dX6_tell_79 (fun r_79 w_79 hp => ?_) (fun _ _ h => h.elim)
        obtain ⟨rfl, rfl⟩ := hp
        refine z_ieq eal ?_
        refine z_weq (w' := [zH, zG _ _ _ _]) rfl ?_
        refine z_seq (S' := zi _ :: _) rfl ?_
        refine z_zaldGN F rfl rfl (Nat.le_of_ble_eq_true rfl) (by omega) rfl dX6_tell_82 ?_
        refine z_ieq (t73) ?_
        refine z_if_neB F (tgt := 241) dX6_tell_83 (by decide) (fun c_83 => ?_) (fun c_83 => ?_)
        · refine z_iload_n F dX6_tell_241 rfl ?_
          exact z_iret F E rfl dX6_tell_242 (by omega) (by omega) (⟨Or.inl ⟨h10, hcj, ro, h24, rfl, hlo, (hKn _ (by omega)).mp c_83⟩, F1, A1, rfl, f0, hF, hA1, h74⟩)
        · refine z_iincN F 1 dX6_tell_86 rfl rfl ?_
          refine z_leq (L' := [_, _, _, _, _, _, _, _]) rfl ?_
          refine z_aload_n F dX6_tell_89 rfl ?_
          refine z_callV F (c_mall F1 G A1 B n hn f4) 0 rfl (lw_V q1880 q1882 qs63 q117 q1883) (by decide +kernel) ⟨Nat.le_of_ble_eq_true rfl, Nat.le_of_ble_eq_true rfl⟩ ⟨by omega, by omega⟩ [0, 1] 2 ⟨rfl, rfl, rfl, ⟨Or.inl rfl, Or.inr rfl, trivial⟩⟩ (fun h => nomatch h) (Nat.le_of_ble_eq_true rfl) ⟨⟨Or.inr trivial, Or.inl rfl, trivial⟩, rfl, rfl, rfl, Nat.le_of_ble_eq_true rfl⟩ rfl zC6 (zat_G0 rfl) rfl dX6_tell_90 (fun r_90 w_90 hp => ?_) (fun _ _ h => h.elim)
          obtain ⟨rfl, rfl⟩ := hp
          refine z_ieq eal ?_
          refine z_weq (w' := [zH, zG _ _ _ _]) rfl ?_
          refine z_seq (S' := zi _ :: _) rfl ?_
          refine z_istore F dX6_tell_93 (Nat.le_of_ble_eq_true rfl) ?_
          refine z_leq (L' := [_, _, _, _, _, _, _, _]) rfl ?_
          exact sets c_83 (2 ^ n) (2 ^ n - 1) A1 (fun _ => false) (by omega) (by omega) hA1 hf1 (fun c hc => h73 c (by omega)) h74 (fun c hc => ⟨fun z => (by cases z), fun ⟨s', a, b, _⟩ => by omega⟩)
    have clr_ : ∀ (m c0 : Nat) (A1 : Nat → Nat → Int32), 1024 - c0 < m → c0 ≤ 1024 → frm tlL A A1 → (∀ k, k < n → A1 6 k = f k) → (∀ c, c < c0 → A1 73 c = nI 0) → (∀ c, c < 1024 → A1 74 c = nI 0) → Z X [some (zr 1 0), some (zi (nI j)), some (zi (nI v)), some (zi (nI c0)), none, none, none, none] [] [zH, zG F1 G A1 B] 0 0 43 := by
      intro m
      induction m with
      | zero => intro c0 A1 hm; omega
      | succ m ih =>
        intro c0 A1 hm hc0 hA1 hf1 h73 h74
        refine z_iload_n F dX6_tell_43 rfl ?_
        refine z_sipush F (nI 1024) dX6_tell_44 rfl ?_
        refine z_icmp_geN F (by omega) (by omega) (tgt := 63) dX6_tell_47 (by decide) (fun c_47 => ?_) (fun c_47 => ?_)
        · refine z_aload_n F dX6_tell_63 rfl ?_
          refine z_ma F rfl 73 rfl (Nat.le_of_ble_eq_true rfl) rfl q1553 dX6_tell_64 ?_
          refine z_iconst F (nI 1) dX6_tell_67 rfl ?_
          refine z_iload_n F dX6_tell_68 rfl ?_
          refine z_ishlB F dX6_tell_69 ?_
          refine z_ieq ((b1_nI (by omega) : b1 v = nI (2 ^ v))) ?_
          refine z_iconst F (nI 1) dX6_tell_70 rfl ?_
          refine z_zastGN F rfl rfl (Nat.le_of_ble_eq_true rfl) (by omega) dX6_tell_71 ?_
          refine z_weq (w' := [_, _]) rfl ?_
          refine z_iconst F (nI 0) dX6_tell_72 rfl ?_
          refine z_istore_n F dX6_tell_73 (Nat.le_of_ble_eq_true rfl) ?_
          refine z_leq (L' := [_, _, _, _, _, _, _, _]) rfl ?_
          refine lp 26 0 (zup2 A1 73 (2 ^ v) (vp_nar .boolean (nI 1))) (fun c => decide (c = 2 ^ v)) (by omega) (fun r' hr' => absurd hr' (by omega)) (frm_zup hA1 (by decide)) (fun k hk => by rw [zup2_ne (by decide)]; exact hf1 k hk) (fun c hc => ?_) (fun c hc => ?_) (fun c hc => by rw [zup2_ne (by decide)]; exact h74 c hc)
          · rw [zup2_row]
            show (if c = 2 ^ v then _ else A1 73 c) = _
            by_cases e : c = 2 ^ v
            · rw [if_pos e, decide_eq_true e]; rfl
            · rw [if_neg e, decide_eq_false e]; exact h73 c (by omega)
          · exact decide_eq_true_iff
        · refine z_aload_n F dX6_tell_50 rfl ?_
          refine z_ma F rfl 73 rfl (Nat.le_of_ble_eq_true rfl) rfl q1553 dX6_tell_51 ?_
          refine z_iload_n F dX6_tell_54 rfl ?_
          refine z_iconst F (nI 0) dX6_tell_55 rfl ?_
          refine z_zastGN F rfl rfl (Nat.le_of_ble_eq_true rfl) (by omega) dX6_tell_56 ?_
          refine z_weq (w' := [_, _]) rfl ?_
          refine z_iincN F 1 dX6_tell_57 rfl rfl ?_
          refine z_leq (L' := [_, _, _, _, _, _, _, _]) rfl ?_
          refine z_goto F (tgt := 43) dX6_tell_60 (by decide) ?_
          refine ih (c0 + 1) _ (by omega) (by omega) (frm_zup hA1 (by decide)) (fun k hk => by rw [zup2_ne (by decide)]; exact hf1 k hk) (fun c hc => ?_) (fun c hc => by rw [zup2_ne (by decide)]; exact h74 c hc)
          rw [zup2_row]
          show (if c = c0 then _ else A1 73 c) = _
          by_cases e : c = c0
          · rw [if_pos e]; rfl
          · rw [if_neg e]; exact h73 c (by omega)
    refine z_iconst F (nI 0) dX6_tell_41 rfl ?_
    refine z_istore_n F dX6_tell_42 (Nat.le_of_ble_eq_true rfl) ?_
    refine z_leq (L' := [_, _, _, _, _, _, _, _]) rfl ?_
    exact clr_ 1025 0 A0 (by omega) (by omega) hA0 hf0 (fun c hc => absurd hc (by omega)) h740
  have hall : ∀ i, i < 32 → bt (allB n) i = true → i < n := fun i _ q => al_lt hn i q
  refine z_aload_n F dX6_tell_0 rfl ?_
  refine z_iload_n F dX6_tell_1 rfl ?_
  refine z_callV F (c_lays_ok _ _ _ _ j n (nI d) f hj (by omega) hn hs) 1 rfl (lw_V q1732 q1734 qs42 q117 q1735) (by decide +kernel) ⟨Nat.le_of_ble_eq_true rfl, Nat.le_of_ble_eq_true rfl⟩ ⟨by omega, by omega⟩ [0, 1] 2 ⟨rfl, rfl, rfl, ⟨Or.inl rfl, Or.inr rfl, trivial⟩⟩ (fun h => nomatch h) (Nat.le_of_ble_eq_true rfl) ⟨⟨Or.inr trivial, Or.inl rfl, trivial⟩, rfl, rfl, rfl, Nat.le_of_ble_eq_true rfl⟩ rfl zC6 (zat_G0 rfl) rfl dX6_tell_2 (fun r_2 w_2 hp => ?_) (fun _ _ h => h.elim)
  obtain ⟨rfl, F1, A1, rfl, f0, f1, f2, f3⟩ := hp
  refine z_weq (w' := [zH, zG _ _ _ _]) rfl ?_
  refine z_seq (S' := zi _ :: _) rfl ?_
  refine z_if_eqB F (tgt := 17) dX6_tell_5 (by decide) (fun c_5 => ?_) (fun c_5 => ?_)
  · cases c_5
  · refine z_aload_n F dX6_tell_8 rfl ?_
    refine z_iload_n F dX6_tell_9 rfl ?_
    refine z_iload_n F dX6_tell_10 rfl ?_
    refine z_callV F (c_mhas _ _ _ _ n (nI v) (nI v) f0 f3.1) 2 rfl (lw_V q1740 q1742 qs44 q117 q1743) (by decide +kernel) ⟨Nat.le_of_ble_eq_true rfl, Nat.le_of_ble_eq_true rfl⟩ ⟨by omega, by omega⟩ [0, 1] 2 ⟨rfl, rfl, rfl, ⟨Or.inl rfl, Or.inr rfl, trivial⟩⟩ (fun h => nomatch h) (Nat.le_of_ble_eq_true rfl) ⟨⟨Or.inr trivial, Or.inl rfl, trivial⟩, rfl, rfl, rfl, Nat.le_of_ble_eq_true rfl⟩ rfl zC6 (zat_G0 rfl) rfl dX6_tell_11 (fun r_11 w_11 hp => ?_) (fun _ _ h => h.elim)
    obtain ⟨rfl, rfl⟩ := hp
    rw [knB_n hv (by omega), Bool.and_self]
    rw [if_pos rfl]
    refine z_weq (w' := [zH, zG _ _ _ _]) rfl ?_
    refine z_seq (S' := zi _ :: _) rfl ?_
    refine z_if_neB F (tgt := 19) dX6_tell_14 (by decide) (fun c_14 => ?_) (fun c_14 => ?_)
    · refine z_aload_n F dX6_tell_19 rfl ?_
      refine z_mi F rfl 4 rfl (Nat.le_of_ble_eq_true rfl) rfl q1484 dX6_tell_20 ?_
      refine z_ieq (f3.1) ?_
      refine z_bipush F (nI 10) dX6_tell_23 rfl ?_
      refine z_icmp_gtN F (by omega) (by omega) (tgt := 39) dX6_tell_25 (by decide) (fun c_25 => ?_) (fun c_25 => ?_)
      · refine z_iconst F (-1) dX6_tell_39 rfl ?_
        exact z_iret F E rfl dX6_tell_40 (by omega) (by omega) (⟨Or.inr ⟨fun z => absurd z.1 (by omega), rfl⟩, F1, A1, rfl, f0, f1.to (by decide), f2.to (by decide), fun c hc => by rw [f2.at 74 rfl]; exact hfr c hc⟩)
      · refine z_aload_n F dX6_tell_28 rfl ?_
        refine z_aload_n F dX6_tell_29 rfl ?_
        refine z_callV F (c_mall F1 G A1 B n hn f3.1) 0 rfl (lw_V q1880 q1882 qs63 q117 q1883) (by decide +kernel) ⟨Nat.le_of_ble_eq_true rfl, Nat.le_of_ble_eq_true rfl⟩ ⟨by omega, by omega⟩ [0, 1] 2 ⟨rfl, rfl, rfl, ⟨Or.inl rfl, Or.inr rfl, trivial⟩⟩ (fun h => nomatch h) (Nat.le_of_ble_eq_true rfl) ⟨⟨Or.inr trivial, Or.inl rfl, trivial⟩, rfl, rfl, rfl, Nat.le_of_ble_eq_true rfl⟩ rfl zC6 (zat_G0 rfl) rfl dX6_tell_30 (fun r_30 w_30 hp => ?_) (fun _ _ h => h.elim)
        obtain ⟨rfl, rfl⟩ := hp
        refine z_weq (w' := [zH, zG _ _ _ _]) rfl ?_
        refine z_seq (S' := zi _ :: _) rfl ?_
        refine z_callV F (c_isWhole F1 G A1 B n f (allB n) hn hall f3.1 (fun k hk => f3.2.2 k (by omega))) 1 rfl (lw_V q1920 q1922 qs72 q117 q1923) (by decide +kernel) ⟨Nat.le_of_ble_eq_true rfl, Nat.le_of_ble_eq_true rfl⟩ ⟨by omega, by omega⟩ [0, 1] 2 ⟨rfl, rfl, rfl, ⟨Or.inl rfl, Or.inr rfl, trivial⟩⟩ (fun h => nomatch h) (Nat.le_of_ble_eq_true rfl) ⟨⟨Or.inr trivial, Or.inl rfl, trivial⟩, rfl, rfl, rfl, Nat.le_of_ble_eq_true rfl⟩ rfl zC6 (zat_G0 rfl) rfl dX6_tell_33 (fun r_33 w_33 hp => ?_) (fun _ _ h => h.elim)
        obtain ⟨rfl, F2, A2, rfl, g1, g2, g3⟩ := hp
        refine z_weq (w' := [zH, zG _ _ _ _]) rfl ?_
        refine z_seq (S' := zi _ :: _) rfl ?_
        refine z_if_neB F (tgt := 41) dX6_tell_36 (by decide) (fun c_36 => ?_) (fun c_36 => ?_)
        · refine z_loc _ ?_ (main F2 A2 (by omega) (by rw [cjn_mw h]; exact c_36) (by rw [g1.at 0 rfl]; exact f0) (by rw [g1.at 4 rfl]; exact f3.1) (f1.tr g1 (by decide) (by decide)) (f2.tr g2 (by decide) (by decide)) (fun k hk => by rw [g2.at 6 rfl]; exact f3.2.2 k (by omega)) (fun c hc => by rw [g2.at 74 rfl, f2.at 74 rfl]; exact hfr c hc))
          exact ⟨rfl, rfl, rfl, trivial⟩
        · refine z_iconst F (-1) dX6_tell_39 rfl ?_
          exact z_iret F E rfl dX6_tell_40 (by omega) (by omega) (⟨Or.inr ⟨fun z => (by rw [← cjn_mw h] at c_36; rw [c_36] at z; cases z.2), rfl⟩, F2, A2, rfl, by rw [g1.at 0 rfl]; exact f0, f1.tr g1 (by decide) (by decide), f2.tr g2 (by decide) (by decide), fun c hc => by rw [g2.at 74 rfl, f2.at 74 rfl]; exact hfr c hc⟩)
    · cases c_14
end C9ym
end
section
/-! falls: the law, the reference's operation -/
section C9yn
theorem cfar_le (n : Nat) (f : Nat → Int32) (st : Int32) : cfar n f st ≤ 100 := by
  unfold cfar
  cases h : cfa n f st 32 with
  | none => exact Nat.le_refl _
  | some v => have := cfa_lt n f st 32 v h; show v ≤ 100; omega
def ptp (f : Nat → Int32) (l : List (Nat × Nat)) (i j : Nat) : Nat → Int32 := pt (pt f (la l i) (lb l i)) (la l j) (lb l j)
def stp (n i j : Nat) : Int32 := (allB n &&& (b1 i ^^^ (-1))) &&& (b1 j ^^^ (-1))
def flV (n : Nat) (f : Nat → Int32) (kind i j : Nat) : Nat := if kind = 1 then cfar n f (stp n i j) else cfar n (ptp f (prs n f) i j) (allB n)
theorem flV_le (n : Nat) (f : Nat → Int32) (kind i j : Nat) : flV n f kind i j ≤ 100 := by
  unfold flV
  split
  · exact cfar_le _ _ _
  · exact cfar_le _ _ _
def fax (o : Option (Nat × Nat × Nat)) (v i j : Nat) : Option (Nat × Nat × Nat) := match o with
  | none => some (v, i, j)
  | some b => if b.1 < v then some (v, i, j) else some b
def faR (val : Nat → Nat → Nat) (i : Nat) (o : Option (Nat × Nat × Nat)) : Nat → Option (Nat × Nat × Nat)
  | 0 => o
  | m + 1 => if i < m then fax (faR val i o m) (val i m) i m else faR val i o m
def fa2 (val : Nat → Nat → Nat) (N : Nat) : Nat → Option (Nat × Nat × Nat)
  | 0 => none
  | i + 1 => faR val i (fa2 val N i) N
def fa1 (val : Nat → Nat → Nat) : Nat → Option (Nat × Nat × Nat)
  | 0 => none
  | i + 1 => fax (fa1 val i) (val i i) i i
def fvI (o : Option (Nat × Nat × Nat)) : Int32 := match o with
  | none => -1
  | some b => nI b.1
def faI (o : Option (Nat × Nat × Nat)) : Int32 := match o with
  | none => -1
  | some b => nI b.2.1
def fbI (o : Option (Nat × Nat × Nat)) : Int32 := match o with
  | none => -1
  | some b => nI b.2.2
def foB (N : Nat) (o : Option (Nat × Nat × Nat)) : Prop := ∀ b, o = some b → b.1 ≤ 100 ∧ b.2.1 < N ∧ b.2.2 < N
theorem fax_B {N : Nat} {o : Option (Nat × Nat × Nat)} {v i j : Nat} (h : foB N o) (hv : v ≤ 100) (hi : i < N) (hj : j < N) : foB N (fax o v i j) := fun b e => by
  cases o with
  | none => simp only [fax, Option.some.injEq] at e; subst e; exact ⟨hv, hi, hj⟩
  | some x =>
    simp only [fax] at e
    split at e
    · simp only [Option.some.injEq] at e; subst e; exact ⟨hv, hi, hj⟩
    · simp only [Option.some.injEq] at e; subst e; exact h x rfl
theorem faR_B {N : Nat} {val : Nat → Nat → Nat} (hv : ∀ i j, val i j ≤ 100) {i : Nat} {o : Option (Nat × Nat × Nat)} (h : foB N o) : ∀ m, m ≤ N → foB N (faR val i o m)
  | 0, _ => h
  | m + 1, hm => by
    rw [faR]
    split
    · exact fax_B (faR_B hv h m (by omega)) (hv _ _) (by omega) (by omega)
    · exact faR_B hv h m (by omega)
theorem fa2_B {N : Nat} {val : Nat → Nat → Nat} (hv : ∀ i j, val i j ≤ 100) : ∀ i, foB N (fa2 val N i)
  | 0 => fun b e => (by cases e)
  | i + 1 => faR_B hv (fa2_B hv i) N (Nat.le_refl _)
theorem fa1_B {N : Nat} {val : Nat → Nat → Nat} (hv : ∀ i j, val i j ≤ 100) : ∀ i, i ≤ N → foB N (fa1 val i)
  | 0, _ => fun b e => (by cases e)
  | i + 1, hi => fax_B (fa1_B hv i (by omega)) (hv _ _) (by omega) (by omega)
theorem fax_s (o : Option (Nat × Nat × Nat)) (v i j : Nat) : ∃ b, fax o v i j = some b := by
  cases o with
  | none => exact ⟨_, rfl⟩
  | some x =>
    simp only [fax]
    split
    · exact ⟨_, rfl⟩
    · exact ⟨_, rfl⟩
theorem faR_s {val : Nat → Nat → Nat} {i : Nat} {o : Option (Nat × Nat × Nat)} (h : ∃ b, o = some b) : ∀ m, ∃ b, faR val i o m = some b
  | 0 => h
  | m + 1 => by
    rw [faR]
    split
    · exact fax_s _ _ _ _
    · exact faR_s h m
theorem faR_s2 {val : Nat → Nat → Nat} {i : Nat} {o : Option (Nat × Nat × Nat)} : ∀ m, i + 1 < m → ∃ b, faR val i o m = some b
  | 0, h => by omega
  | m + 1, h => by
    rw [faR, if_pos (by omega)]
    exact fax_s _ _ _ _
theorem fa2_s {val : Nat → Nat → Nat} {N : Nat} (hN : 2 ≤ N) : ∀ i, 1 ≤ i → ∃ b, fa2 val N i = some b
  | 0, h => by omega
  | 1, _ => faR_s2 N (by omega)
  | i + 2, _ => faR_s (fa2_s hN (i + 1) (by omega)) N
theorem fa1_s {val : Nat → Nat → Nat} : ∀ i, 1 ≤ i → ∃ b, fa1 val i = some b
  | 0, h => by omega
  | i + 1, _ => fax_s _ _ _ _
theorem faR_ge {val : Nat → Nat → Nat} {i : Nat} {o : Option (Nat × Nat × Nat)} : ∀ m, m ≤ i + 1 → faR val i o m = o
  | 0, _ => rfl
  | m + 1, h => by rw [faR, if_neg (by omega), faR_ge m (by omega)]
theorem fax_lt {N : Nat} {o : Option (Nat × Nat × Nat)} {v i j : Nat} (hB : foB N o) (hv : v ≤ 100) (h : fvI o < nI v) : fax o v i j = some (v, i, j) := by
  cases o with
  | none => rfl
  | some b =>
    have hb := (hB b rfl).1
    have h : nI b.1 < nI v := h
    have : b.1 < v := Nat.lt_of_not_le fun z => nI_nlt z (by omega) h
    simp only [fax, if_pos this]
theorem fax_ge {N : Nat} {o : Option (Nat × Nat × Nat)} {v i j : Nat} (hB : foB N o) (hv : v ≤ 100) (h : ¬ fvI o < nI v) : fax o v i j = o := by
  cases o with
  | none =>
    refine absurd ?_ h
    show (-1 : Int32) < nI v
    exact Int32.not_le.mp fun z => by
      have h0 : ¬ nI v < 0 := nI_pos (by omega)
      exact h0 (Int32.lt_of_le_of_lt z (by decide))
  | some b =>
    have hb := (hB b rfl).1
    have h : ¬ nI b.1 < nI v := h
    have : ¬ b.1 < v := fun z => h (nI_lt z (by omega))
    simp only [fax, if_neg this]
def flN (kind n : Nat) (f : Nat → Int32) : Nat := if kind = 0 then (prs n f).length else n
def flO (many kind n : Nat) (f : Nat → Int32) : Option (Nat × Nat × Nat) := if many = 0 then some (cfar n f (allB n), 0, 0) else if many = 1 then fa1 (flV n f kind) (flN kind n f) else fa2 (flV n f kind) (flN kind n f) (flN kind n f)
def few (many kind n : Nat) (f : Nat → Int32) : Prop := flN kind n f < many ∨ (kind = 1 ∧ many = n)
theorem flO_s {many kind n : Nat} {f : Nat → Int32} (hm : many ≤ 2) (h : ¬ few many kind n f) : ∃ b, flO many kind n f = some b ∧ b.1 ≤ 100 ∧ (1 ≤ many → b.2.1 < flN kind n f) ∧ (2 ≤ many → b.2.2 < flN kind n f) := by
  have hN : many ≤ flN kind n f := Nat.le_of_not_lt fun z => h (Or.inl z)
  unfold flO
  by_cases e0 : many = 0
  · rw [if_pos e0]; exact ⟨_, rfl, cfar_le _ _ _, fun z => by omega, fun z => by omega⟩
  · rw [if_neg e0]
    by_cases e1 : many = 1
    · rw [if_pos e1]
      obtain ⟨b, hb⟩ := fa1_s (val := flV n f kind) (flN kind n f) (by omega)
      have := fa1_B (N := flN kind n f) (flV_le n f kind) _ (Nat.le_refl _) b hb
      exact ⟨b, hb, this.1, fun _ => this.2.1, fun _ => this.2.2⟩
    · rw [if_neg e1]
      obtain ⟨b, hb⟩ := fa2_s (val := flV n f kind) (N := flN kind n f) (by omega) (flN kind n f) (by omega)
      have := fa2_B (N := flN kind n f) (flV_le n f kind) _ b hb
      exact ⟨b, hb, this.1, fun _ => this.2.1, fun _ => this.2.2⟩
theorem stp_in {n i j : Nat} (hn : n ≤ 24) (hi : i < 32) (hj : j < 32) : ∀ k, bt (stp n i j) k = true → k < n := fun k hk => by
  unfold stp at hk
  rw [b_and, b_and, Bool.and_eq_true, Bool.and_eq_true] at hk
  exact al_lt hn k hk.1.1
theorem jn_cg {f g : Nat → Int32} {a b : Nat} (h : ∀ k, f k = g k) : jn f a b = jn g a b := by rw [show f = g from funext h]
theorem jj_pp {f : Nat → Int32} {a b c d : Nat} (ha : a < 32) (hb : b < 32) (hc : c < 32) (hd : d < 32) (h1 : bt (f a) b = true) (h2 : bt (f b) a = true) (h3 : bt (f c) d = true) (h4 : bt (f d) c = true) : jn (jn (pt (pt f a b) c d) a b) c d = f := by
  funext k
  refine b_ext fun i hi => ?_
  rw [bt_jn hc hd, bt_jn ha hb, bt_pt hc hd _ hi, bt_pt ha hb _ hi]
  by_cases q1 : k = a ∧ i = b
  · rw [q1.1, q1.2, h1, decide_eq_true rfl, decide_eq_true rfl]; simp
  · by_cases q2 : k = b ∧ i = a
    · rw [q2.1, q2.2, h2, decide_eq_true rfl, decide_eq_true rfl]; simp
    · by_cases q3 : k = c ∧ i = d
      · rw [q3.1, q3.2, h3, decide_eq_true rfl, decide_eq_true rfl]; simp
      · by_cases q4 : k = d ∧ i = c
        · rw [q4.1, q4.2, h4, decide_eq_true rfl, decide_eq_true rfl]; simp
        · have e1 : (decide (k = a) && decide (i = b)) = false := by rw [← Bool.decide_and, decide_eq_false q1]
          have e2 : (decide (k = b) && decide (i = a)) = false := by rw [← Bool.decide_and, decide_eq_false q2]
          have e3 : (decide (k = c) && decide (i = d)) = false := by rw [← Bool.decide_and, decide_eq_false q3]
          have e4 : (decide (k = d) && decide (i = c)) = false := by rw [← Bool.decide_and, decide_eq_false q4]
          rw [e1, e2, e3, e4]; simp
theorem fl_out {x : Int32} {m : Nat} (h1 : ¬ x < 0) (h2 : ¬ nI m ≤ x) (hx : ∀ i, i < m → ¬ x = nI i) : False := by
  obtain ⟨k, hk, rfl⟩ := nI_of h1
  exact hx k (Nat.lt_of_not_le fun z => h2 (nI_le z hk)) rfl
theorem c_mfarOf (F0 : Nat → Int32) (G : Nat → Int64) (A : Nat → Nat → Int32) (B : Nat → Nat → Int64) (n d : Nat) (g : Nat → Int32) (st : Int32) (h : nok n d g) (hst : ∀ i, bt st i = true → i < n) (h4 : F0 4 = nI n) (hf : ∀ k, k < n → A 6 k = g k) :
    zCtr yX6_farOf cX6_farOf 2 (some .int) 2 0 0 [zr 1 0, zi st] [zH, zG F0 G A B] (fun r w => r = some (zi (nI (cfar n g st))) ∧ ∃ F' A', w = [zH, zG F' G A' B] ∧ frm [24, 25] F0 F' ∧ frm [23] A A') zNx := by
  refine z_start (by decide) [some (zr 1 0), some (zi st)] rfl (fun _ => Nat.le_of_ble_eq_true rfl) (fun _ => rfl) (fun X F E hno hin => ?_)
  have hn := h.n24
  have e1 : ∀ p, mw n g st n = some p → cfar n g st = p.1 := fun p hp => by
    have := (mw_some hst (fun a b ha hb => h.sym ha hb) (F := p.1) (S := p.2) hp).1
    unfold cfar; rw [this]
  have e2 : mw n g st n = none → cfar n g st = 100 := fun hp => by
    unfold cfar; rw [mw_none (h32 := by omega) hst hp]
  refine z_aload_n F dX6_farOf_0 rfl ?_
  refine z_iload_n F dX6_farOf_1 rfl ?_
  refine z_callV F (c_isWhole F0 G A B n g st hn (fun i _ q => hst i q) h4 hf) 1 rfl (lw_V q1920 q1922 qs72 q117 q1923) (by decide +kernel) ⟨Nat.le_of_ble_eq_true rfl, Nat.le_of_ble_eq_true rfl⟩ ⟨by omega, by omega⟩ [0, 1] 2 ⟨rfl, rfl, rfl, ⟨Or.inl rfl, Or.inr rfl, trivial⟩⟩ (fun h => nomatch h) (Nat.le_of_ble_eq_true rfl) ⟨⟨Or.inr trivial, Or.inl rfl, trivial⟩, rfl, rfl, rfl, Nat.le_of_ble_eq_true rfl⟩ rfl zC6 (zat_G0 rfl) rfl dX6_farOf_2 (fun r_2 w_2 hp => ?_) (fun _ _ h => h.elim)
  obtain ⟨rfl, F2, A2, rfl, g1, g2, g3⟩ := hp
  refine z_weq (w' := [zH, zG _ _ _ _]) rfl ?_
  refine z_seq (S' := zi _ :: _) rfl ?_
  refine z_if_eqB F (tgt := 15) dX6_farOf_5 (by decide) (fun c_5 => ?_) (fun c_5 => ?_)
  · have hno : mw n g st n = none := Option.not_isSome_iff_eq_none.mp (by rw [c_5]; decide)
    refine z_bipush F (nI 100) dX6_farOf_15 rfl ?_
    exact z_iret F E rfl dX6_farOf_17 (by omega) (by omega) (⟨by rw [e2 hno], F2, A2, rfl, g1, g2⟩)
  · obtain ⟨p, hp⟩ := Option.isSome_iff_exists.mp c_5
    refine z_aload_n F dX6_farOf_8 rfl ?_
    refine z_mi F rfl 24 rfl (Nat.le_of_ble_eq_true rfl) rfl q1504 dX6_farOf_9 ?_
    refine z_ieq ((g3 p hp).1) ?_
    refine z_goto F (tgt := 17) dX6_farOf_12 (by decide) ?_
    exact z_iret F E rfl dX6_farOf_17 (by omega) (by omega) (⟨by rw [e1 p hp], F2, A2, rfl, g1, g2⟩)
theorem c_mfarW (F0 : Nat → Int32) (G : Nat → Int64) (A : Nat → Nat → Int32) (B : Nat → Nat → Int64) (n d kind i j : Nat) (f : Nat → Int32) (h : nok n d f) (hk : kind < 2) (hi : i < flN kind n f) (hj : j < flN kind n f) (hE : LnE A (prs n f)) (h4 : F0 4 = nI n) (hf : ∀ k, k < 24 → A 6 k = f k) :
    zCtr yX6_farWithout cX6_farWithout 5 (some .int) 3 0 0 [zr 1 0, zi (nI kind), zi (nI i), zi (nI j)] [zH, zG F0 G A B] (fun r w => r = some (zi (nI (flV n f kind i j))) ∧ ∃ F' A', w = [zH, zG F' G A' B] ∧ frm [24, 25] F0 F' ∧ frm [23] A A') zNx := by
  refine z_start (by decide) [some (zr 1 0), some (zi (nI kind)), some (zi (nI i)), some (zi (nI j)), none] rfl (fun _ => Nat.le_of_ble_eq_true rfl) (fun _ => rfl) (fun X F E hno hin => ?_)
  have hn := h.n24
  have h96 := prs_96 h
  have hln : kind = 0 → i < (prs n f).length ∧ j < (prs n f).length := fun e => by
    unfold flN at hi hj; rw [if_pos e] at hi hj; exact ⟨hi, hj⟩
  have hkn : kind = 1 → i < n ∧ j < n := fun e => by
    unfold flN at hi hj; rw [if_neg (by omega)] at hi hj; exact ⟨hi, hj⟩
  have hsN : ∀ st : Int32, kind = 1 → (allB n &&& ((nI 1 <<< (nI i &&& 31)) ^^^ (-1))) &&& ((nI 1 <<< (nI j &&& 31)) ^^^ (-1)) = stp n i j := fun _ _ => rfl
  refine z_iload_n F dX6_farWithout_0 rfl ?_
  refine z_iconst F (nI 1) dX6_farWithout_1 rfl ?_
  refine z_icmp_neN F (by omega) (by omega) (tgt := 26) dX6_farWithout_2 (by decide) (fun c_2 => ?_) (fun c_2 => ?_)
  · obtain ⟨hil, hjl⟩ := hln (by omega)
    have ev : flV n f kind i j = cfar n (ptp f (prs n f) i j) (allB n) := if_neg (by omega)
    obtain ⟨p1, p2, p3⟩ := prs_at hil
    obtain ⟨r1, r2, r3⟩ := prs_at hjl
    have p4 : bt (f (lb (prs n f) i)) (la (prs n f) i) = true := by rw [← h.sym (by omega) p2]; exact p3
    have r4 : bt (f (lb (prs n f) j)) (la (prs n f) j) = true := by rw [← h.sym (by omega) r2]; exact r3
    obtain ⟨l1, l2⟩ : A 21 i = nI (la (prs n f) i) ∧ A 22 i = nI (lb (prs n f) i) := hE i hil
    obtain ⟨m1, m2⟩ : A 21 j = nI (la (prs n f) j) ∧ A 22 j = nI (lb (prs n f) j) := hE j hjl
    have q3 : bt (A 6 (la (prs n f) i)) (lb (prs n f) i) = true := by rw [hf _ (by omega)]; exact p3
    have q4 : bt (A 6 (lb (prs n f) i)) (la (prs n f) i) = true := by rw [hf _ (by omega)]; exact p4
    have q5 : bt (A 6 (la (prs n f) j)) (lb (prs n f) j) = true := by rw [hf _ (by omega)]; exact r3
    have q6 : bt (A 6 (lb (prs n f) j)) (la (prs n f) j) = true := by rw [hf _ (by omega)]; exact r4
    have hok := nok_pt (a := la (prs n f) j) (b := lb (prs n f) j) (nok_pt (a := la (prs n f) i) (b := lb (prs n f) i) h (by omega) p2) (by omega) r2
    refine z_aload_n F dX6_farWithout_26 rfl ?_
    refine z_aload_n F dX6_farWithout_27 rfl ?_
    refine z_ma F rfl 21 rfl (Nat.le_of_ble_eq_true rfl) rfl q1501 dX6_farWithout_28 ?_
    refine z_iload_n F dX6_farWithout_31 rfl ?_
    refine z_ialdGN F rfl rfl (Nat.le_of_ble_eq_true rfl) (by omega) rfl dX6_farWithout_32 ?_
    refine z_ieq (l1) ?_
    refine z_aload_n F dX6_farWithout_33 rfl ?_
    refine z_ma F rfl 22 rfl (Nat.le_of_ble_eq_true rfl) rfl q1502 dX6_farWithout_34 ?_
    refine z_iload_n F dX6_farWithout_37 rfl ?_
    refine z_ialdGN F rfl rfl (Nat.le_of_ble_eq_true rfl) (by omega) rfl dX6_farWithout_38 ?_
    refine z_ieq (l2) ?_
    refine z_callV F (c_parts _ _ _ _ (la (prs n f) i) (lb (prs n f) i) (by omega) (by omega)) 2 rfl (lw_V q1763 q1765 qs48 q117 q1766) (by decide +kernel) ⟨Nat.le_of_ble_eq_true rfl, Nat.le_of_ble_eq_true rfl⟩ ⟨by omega, by omega⟩ [0, 1] 2 ⟨rfl, rfl, rfl, ⟨Or.inl rfl, Or.inr rfl, trivial⟩⟩ (fun h => nomatch h) (Nat.le_of_ble_eq_true rfl) ⟨⟨Or.inr trivial, Or.inl rfl, trivial⟩, rfl, rfl, rfl, Nat.le_of_ble_eq_true rfl⟩ rfl zC6 (zat_G0 rfl) rfl dX6_farWithout_39 (fun r_39 w_39 hp => ?_) (fun _ _ h => h.elim)
    obtain ⟨rfl, rfl⟩ := hp
    refine z_weq (w' := [zH, zG _ _ _ _]) rfl ?_
    refine z_seq (S' := []) rfl ?_
    refine z_aload_n F dX6_farWithout_42 rfl ?_
    refine z_aload_n F dX6_farWithout_43 rfl ?_
    refine z_ma F rfl 21 rfl (Nat.le_of_ble_eq_true rfl) rfl q1501 dX6_farWithout_44 ?_
    refine z_iload_n F dX6_farWithout_47 rfl ?_
    refine z_ialdGN F rfl rfl (Nat.le_of_ble_eq_true rfl) (by omega) rfl dX6_farWithout_48 ?_
    refine z_ieq ((congrFun (fA_ne (by decide)) _).trans m1) ?_
    refine z_aload_n F dX6_farWithout_49 rfl ?_
    refine z_ma F rfl 22 rfl (Nat.le_of_ble_eq_true rfl) rfl q1502 dX6_farWithout_50 ?_
    refine z_iload_n F dX6_farWithout_53 rfl ?_
    refine z_ialdGN F rfl rfl (Nat.le_of_ble_eq_true rfl) (by omega) rfl dX6_farWithout_54 ?_
    refine z_ieq ((congrFun (fA_ne (by decide)) _).trans m2) ?_
    refine z_callV F (c_parts _ _ _ _ (la (prs n f) j) (lb (prs n f) j) (by omega) (by omega)) 2 rfl (lw_V q1763 q1765 qs48 q117 q1766) (by decide +kernel) ⟨Nat.le_of_ble_eq_true rfl, Nat.le_of_ble_eq_true rfl⟩ ⟨by omega, by omega⟩ [0, 1] 2 ⟨rfl, rfl, rfl, ⟨Or.inl rfl, Or.inr rfl, trivial⟩⟩ (fun h => nomatch h) (Nat.le_of_ble_eq_true rfl) ⟨⟨Or.inr trivial, Or.inl rfl, trivial⟩, rfl, rfl, rfl, Nat.le_of_ble_eq_true rfl⟩ rfl zC6 (zat_G0 rfl) rfl dX6_farWithout_55 (fun r_55 w_55 hp => ?_) (fun _ _ h => h.elim)
    obtain ⟨rfl, rfl⟩ := hp
    rw [fA_fA, fA_at]
    refine z_weq (w' := [zH, zG _ _ _ _]) rfl ?_
    refine z_seq (S' := []) rfl ?_
    refine z_aload_n F dX6_farWithout_58 rfl ?_
    refine z_aload_n F dX6_farWithout_59 rfl ?_
    refine z_callV F (c_mall F0 _ _ _ n hn h4) 0 rfl (lw_V q1880 q1882 qs63 q117 q1883) (by decide +kernel) ⟨Nat.le_of_ble_eq_true rfl, Nat.le_of_ble_eq_true rfl⟩ ⟨by omega, by omega⟩ [0, 1] 2 ⟨rfl, rfl, rfl, ⟨Or.inl rfl, Or.inr rfl, trivial⟩⟩ (fun h => nomatch h) (Nat.le_of_ble_eq_true rfl) ⟨⟨Or.inr trivial, Or.inl rfl, trivial⟩, rfl, rfl, rfl, Nat.le_of_ble_eq_true rfl⟩ rfl zC6 (zat_G0 rfl) rfl dX6_farWithout_60 (fun r_60 w_60 hp => ?_) (fun _ _ h => h.elim)
    obtain ⟨rfl, rfl⟩ := hp
    refine z_weq (w' := [zH, zG _ _ _ _]) rfl ?_
    refine z_seq (S' := zi _ :: _) rfl ?_
    refine z_callV F (c_mfarOf F0 _ _ _ n d (ptp f (prs n f) i j) (allB n) hok (al_lt hn) h4 (fun k hk => by rw [fA_at]; exact pt_cong (fun k hk => pt_cong hf (by omega) (by omega) hk) (by omega) (by omega) (by omega))) 1 rfl (lw_V q2027 q2029 qs86 q117 q2030) (by decide +kernel) ⟨Nat.le_of_ble_eq_true rfl, Nat.le_of_ble_eq_true rfl⟩ ⟨by omega, by omega⟩ [0, 1] 2 ⟨rfl, rfl, rfl, ⟨Or.inl rfl, Or.inr rfl, trivial⟩⟩ (fun h => nomatch h) (Nat.le_of_ble_eq_true rfl) ⟨⟨Or.inr trivial, Or.inl rfl, trivial⟩, rfl, rfl, rfl, Nat.le_of_ble_eq_true rfl⟩ rfl zC6 (zat_G0 rfl) rfl dX6_farWithout_63 (fun r_63 w_63 hp => ?_) (fun _ _ h => h.elim)
    obtain ⟨rfl, F2, A2, rfl, g1, g2⟩ := hp
    refine z_weq (w' := [zH, zG _ _ _ _]) rfl ?_
    refine z_seq (S' := zi _ :: _) rfl ?_
    refine z_istore F dX6_farWithout_66 (Nat.le_of_ble_eq_true rfl) ?_
    refine z_leq (L' := [_, _, _, _, _]) rfl ?_
    refine z_aload_n F dX6_farWithout_68 rfl ?_
    refine z_aload_n F dX6_farWithout_69 rfl ?_
    refine z_ma F rfl 21 rfl (Nat.le_of_ble_eq_true rfl) rfl q1501 dX6_farWithout_70 ?_
    refine z_iload_n F dX6_farWithout_73 rfl ?_
    refine z_ialdGN F rfl rfl (Nat.le_of_ble_eq_true rfl) (by omega) rfl dX6_farWithout_74 ?_
    refine z_ieq ((congrFun ((g2.at 21 rfl).trans (fA_ne (by decide))) _).trans l1) ?_
    refine z_aload_n F dX6_farWithout_75 rfl ?_
    refine z_ma F rfl 22 rfl (Nat.le_of_ble_eq_true rfl) rfl q1502 dX6_farWithout_76 ?_
    refine z_iload_n F dX6_farWithout_79 rfl ?_
    refine z_ialdGN F rfl rfl (Nat.le_of_ble_eq_true rfl) (by omega) rfl dX6_farWithout_80 ?_
    refine z_ieq ((congrFun ((g2.at 22 rfl).trans (fA_ne (by decide))) _).trans l2) ?_
    refine z_callV F (c_joins _ _ _ _ (la (prs n f) i) (lb (prs n f) i) (by omega) (by omega)) 2 rfl (lw_V q1755 q1757 qs47 q117 q1758) (by decide +kernel) ⟨Nat.le_of_ble_eq_true rfl, Nat.le_of_ble_eq_true rfl⟩ ⟨by omega, by omega⟩ [0, 1] 2 ⟨rfl, rfl, rfl, ⟨Or.inl rfl, Or.inr rfl, trivial⟩⟩ (fun h => nomatch h) (Nat.le_of_ble_eq_true rfl) ⟨⟨Or.inr trivial, Or.inl rfl, trivial⟩, rfl, rfl, rfl, Nat.le_of_ble_eq_true rfl⟩ rfl zC6 (zat_G0 rfl) rfl dX6_farWithout_81 (fun r_81 w_81 hp => ?_) (fun _ _ h => h.elim)
    obtain ⟨rfl, rfl⟩ := hp
    refine z_weq (w' := [zH, zG _ _ _ _]) rfl ?_
    refine z_seq (S' := []) rfl ?_
    refine z_aload_n F dX6_farWithout_84 rfl ?_
    refine z_aload_n F dX6_farWithout_85 rfl ?_
    refine z_ma F rfl 21 rfl (Nat.le_of_ble_eq_true rfl) rfl q1501 dX6_farWithout_86 ?_
    refine z_iload_n F dX6_farWithout_89 rfl ?_
    refine z_ialdGN F rfl rfl (Nat.le_of_ble_eq_true rfl) (by omega) rfl dX6_farWithout_90 ?_
    refine z_ieq ((congrFun ((fA_ne (by decide)).trans ((g2.at 21 rfl).trans (fA_ne (by decide)))) _).trans m1) ?_
    refine z_aload_n F dX6_farWithout_91 rfl ?_
    refine z_ma F rfl 22 rfl (Nat.le_of_ble_eq_true rfl) rfl q1502 dX6_farWithout_92 ?_
    refine z_iload_n F dX6_farWithout_95 rfl ?_
    refine z_ialdGN F rfl rfl (Nat.le_of_ble_eq_true rfl) (by omega) rfl dX6_farWithout_96 ?_
    refine z_ieq ((congrFun ((fA_ne (by decide)).trans ((g2.at 22 rfl).trans (fA_ne (by decide)))) _).trans m2) ?_
    refine z_callV F (c_joins _ _ _ _ (la (prs n f) j) (lb (prs n f) j) (by omega) (by omega)) 2 rfl (lw_V q1755 q1757 qs47 q117 q1758) (by decide +kernel) ⟨Nat.le_of_ble_eq_true rfl, Nat.le_of_ble_eq_true rfl⟩ ⟨by omega, by omega⟩ [0, 1] 2 ⟨rfl, rfl, rfl, ⟨Or.inl rfl, Or.inr rfl, trivial⟩⟩ (fun h => nomatch h) (Nat.le_of_ble_eq_true rfl) ⟨⟨Or.inr trivial, Or.inl rfl, trivial⟩, rfl, rfl, rfl, Nat.le_of_ble_eq_true rfl⟩ rfl zC6 (zat_G0 rfl) rfl dX6_farWithout_97 (fun r_97 w_97 hp => ?_) (fun _ _ h => h.elim)
    obtain ⟨rfl, rfl⟩ := hp
    rw [fA_fA, fA_at, g2.at 6 rfl, fA_at, jj_pp (by omega) (by omega) (by omega) (by omega) q3 q4 q5 q6]
    refine z_weq (w' := [zH, zG _ _ _ _]) rfl ?_
    refine z_seq (S' := []) rfl ?_
    refine z_iload F dX6_farWithout_100 rfl ?_
    exact z_iret F E rfl dX6_farWithout_102 (by omega) (by omega) (⟨by rw [ev], F2, _, rfl, g1, frm_back g2⟩)
  · have hk1 := hkn (by omega)
    have ev : flV n f kind i j = cfar n f (stp n i j) := if_pos (by omega)
    refine z_aload_n F dX6_farWithout_5 rfl ?_
    refine z_aload_n F dX6_farWithout_6 rfl ?_
    refine z_callV F (c_mall F0 G A B n hn h4) 0 rfl (lw_V q1880 q1882 qs63 q117 q1883) (by decide +kernel) ⟨Nat.le_of_ble_eq_true rfl, Nat.le_of_ble_eq_true rfl⟩ ⟨by omega, by omega⟩ [0, 1] 2 ⟨rfl, rfl, rfl, ⟨Or.inl rfl, Or.inr rfl, trivial⟩⟩ (fun h => nomatch h) (Nat.le_of_ble_eq_true rfl) ⟨⟨Or.inr trivial, Or.inl rfl, trivial⟩, rfl, rfl, rfl, Nat.le_of_ble_eq_true rfl⟩ rfl zC6 (zat_G0 rfl) rfl dX6_farWithout_7 (fun r_7 w_7 hp => ?_) (fun _ _ h => h.elim)
    obtain ⟨rfl, rfl⟩ := hp
    refine z_weq (w' := [zH, zG _ _ _ _]) rfl ?_
    refine z_seq (S' := zi _ :: _) rfl ?_
    refine z_iconst F (nI 1) dX6_farWithout_10 rfl ?_
    refine z_iload_n F dX6_farWithout_11 rfl ?_
    refine z_ishlB F dX6_farWithout_12 ?_
    refine z_iconst F (-1) dX6_farWithout_13 rfl ?_
    refine z_ixor F dX6_farWithout_14 ?_
    refine z_iand F dX6_farWithout_15 ?_
    refine z_iconst F (nI 1) dX6_farWithout_16 rfl ?_
    refine z_iload_n F dX6_farWithout_17 rfl ?_
    refine z_ishlB F dX6_farWithout_18 ?_
    refine z_iconst F (-1) dX6_farWithout_19 rfl ?_
    refine z_ixor F dX6_farWithout_20 ?_
    refine z_iand F dX6_farWithout_21 ?_
    refine z_callV F (c_mfarOf F0 G A B n d f (stp n i j) h (stp_in hn (by omega) (by omega)) h4 (fun k hk => hf k (by omega))) 1 rfl (lw_V q2027 q2029 qs86 q117 q2030) (by decide +kernel) ⟨Nat.le_of_ble_eq_true rfl, Nat.le_of_ble_eq_true rfl⟩ ⟨by omega, by omega⟩ [0, 1] 2 ⟨rfl, rfl, rfl, ⟨Or.inl rfl, Or.inr rfl, trivial⟩⟩ (fun h => nomatch h) (Nat.le_of_ble_eq_true rfl) ⟨⟨Or.inr trivial, Or.inl rfl, trivial⟩, rfl, rfl, rfl, Nat.le_of_ble_eq_true rfl⟩ rfl zC6 (zat_G0 rfl) rfl dX6_farWithout_22 (fun r_22 w_22 hp => ?_) (fun _ _ h => h.elim)
    obtain ⟨rfl, F2, A2, rfl, g1, g2⟩ := hp
    refine z_weq (w' := [zH, zG _ _ _ _]) rfl ?_
    refine z_seq (S' := zi _ :: _) rfl ?_
    exact z_iret F E rfl dX6_farWithout_25 (by omega) (by omega) (⟨by rw [ev], F2, A2, rfl, g1, g2⟩)
theorem c_mfalls_ok (F0 : Nat → Int32) (G : Nat → Int64) (A : Nat → Nat → Int32) (B : Nat → Nat → Int64) (s n d kind many : Nat) (f : Nat → Int32) (hs8 : s < 8) (h : nok n d f) (hs : Slt A s n (nI d) f) (hk : kind < 2) (hm : many < 3) :
    zCtr yX6_falls cX6_falls 9 (some .int) 4 0 0 [zr 1 0, zi (nI s), zi (nI kind), zi (nI many)] [zH, zG F0 G A B] (fun r w => ∃ F' A', w = [zH, zG F' G A' B] ∧ F' 0 = nI 0 ∧ frm [0, 4, 5, 20, 24, 25, 58] F0 F' ∧ frm [6, 21, 22, 23, 59] A A' ∧ ((few many kind n f ∧ r = some (zi (-1)) ∧ F' 58 = F0 58 ∧ A' 59 = A 59) ∨ (¬ few many kind n f ∧ ∃ b, flO many kind n f = some b ∧ r = some (zi (nI b.1)) ∧ F' 58 = nI many ∧ (1 ≤ many → A' 59 0 = nI b.2.1) ∧ (2 ≤ many → A' 59 1 = nI b.2.2)))) zNx := by
  refine z_start (by decide) [some (zr 1 0), some (zi (nI s)), some (zi (nI kind)), some (zi (nI many)), none, none, none, none, none] rfl (fun _ => Nat.le_of_ble_eq_true rfl) (fun _ => rfl) (fun X F E hno hin => ?_)
  have hn1 := h.n1
  have hn := h.n24
  have h96 := prs_96 h
  have hNN : flN kind n f ≤ 96 := by
    unfold flN
    split
    · exact h96
    · omega
  have hall : ∀ i, i < 32 → bt (allB n) i = true → i < n := fun i _ q => al_lt hn i q
  have end_ : ∀ (o : Option (Nat × Nat × Nat)) (F1 : Nat → Int32) (A1 : Nat → Nat → Int32), ¬ few many kind n f → flO many kind n f = o → F1 0 = nI 0 → F1 58 = nI many → frm [0, 4, 5, 20, 24, 25, 58] F0 F1 → frm [6, 21, 22, 23, 59] A A1 → (∀ b, o = some b → (1 ≤ many → A1 59 0 = nI b.2.1) ∧ (2 ≤ many → A1 59 1 = nI b.2.2)) → Z X [none, none, none, none, none, some (zi (fvI o)), none, none, none] [] [zH, zG F1 G A1 B] 0 0 213 := by
    intro o F1 A1 hf ho f0 f58 hF hA hb
    obtain ⟨b, hb1, -⟩ := flO_s (by omega) hf
    rw [ho] at hb1
    subst hb1
    refine z_iload F dX6_falls_213 rfl ?_
    exact z_iret F E rfl dX6_falls_215 (by omega) (by omega) (⟨F1, A1, rfl, f0, hF, hA, Or.inr ⟨hf, b, ho, rfl, f58, hb b rfl⟩⟩)
  have body : ∀ (o : Option (Nat × Nat × Nat)) (i j : Nat) (F1 : Nat → Int32) (A1 : Nat → Nat → Int32), foB (flN kind n f) o → i < flN kind n f → j < flN kind n f → F1 0 = nI 0 → F1 4 = nI n → F1 58 = nI many → frm [0, 4, 5, 20, 24, 25, 58] F0 F1 → frm [6, 21, 22, 23, 59] A A1 → LnE A1 (prs n f) → (∀ k, k < 24 → A1 6 k = f k) → (∀ b, o = some b → A1 59 0 = nI b.2.1 ∧ A1 59 1 = nI b.2.2) →
      (∀ (F2 : Nat → Int32) (A2 : Nat → Nat → Int32), F2 0 = nI 0 → F2 4 = nI n → F2 58 = nI many → frm [0, 4, 5, 20, 24, 25, 58] F0 F2 → frm [6, 21, 22, 23, 59] A A2 → LnE A2 (prs n f) → (∀ k, k < 24 → A2 6 k = f k) → (∀ b, fax o (flV n f kind i j) i j = some b → A2 59 0 = nI b.2.1 ∧ A2 59 1 = nI b.2.2) → Z X [some (zr 1 0), none, some (zi (nI kind)), some (zi (nI many)), some (zi (nI (flN kind n f))), some (zi (fvI (fax o (flV n f kind i j) i j))), some (zi (nI i)), some (zi (nI (j + 1))), none] [] [zH, zG F2 G A2 B] 0 0 141) →
      Z X [some (zr 1 0), none, some (zi (nI kind)), some (zi (nI many)), some (zi (nI (flN kind n f))), some (zi (fvI o)), some (zi (nI i)), some (zi (nI j)), none] [] [zH, zG F1 G A1 B] 0 0 160 := by
    intro o i j F1 A1 hB hi hj f0 f4 f58 hF hA hE hf hb kk
    have hle := flV_le n f kind i j
    refine z_aload_n F dX6_falls_160 rfl ?_
    refine z_iload_n F dX6_falls_161 rfl ?_
    refine z_iload F dX6_falls_162 rfl ?_
    refine z_iload F dX6_falls_164 rfl ?_
    refine z_callV F (c_mfarW F1 G A1 B n d kind i j f h hk hi hj hE f4 hf) 3 rfl (lw_V q2031 q2033 qs87 q117 q2034) (by decide +kernel) ⟨Nat.le_of_ble_eq_true rfl, Nat.le_of_ble_eq_true rfl⟩ ⟨by omega, by omega⟩ [0, 1] 2 ⟨rfl, rfl, rfl, ⟨Or.inl rfl, Or.inr rfl, trivial⟩⟩ (fun h => nomatch h) (Nat.le_of_ble_eq_true rfl) ⟨⟨Or.inr trivial, Or.inl rfl, trivial⟩, rfl, rfl, rfl, Nat.le_of_ble_eq_true rfl⟩ rfl zC6 (zat_G0 rfl) rfl dX6_falls_166 (fun r_166 w_166 hp => ?_) (fun _ _ h => h.elim)
    obtain ⟨rfl, F2, A2, rfl, g1, g2⟩ := hp
    refine z_weq (w' := [zH, zG _ _ _ _]) rfl ?_
    refine z_seq (S' := zi _ :: _) rfl ?_
    refine z_istore F dX6_falls_169 (Nat.le_of_ble_eq_true rfl) ?_
    refine z_leq (L' := [_, _, _, _, _, _, _, _, _]) rfl ?_
    refine z_iload F dX6_falls_171 rfl ?_
    refine z_iload F dX6_falls_173 rfl ?_
    refine z_icmp_gt F (tgt := 181) dX6_falls_175 (by decide) (fun c_175 => ?_) (fun c_175 => ?_)
    · refine z_iload F dX6_falls_181 rfl ?_
      refine z_istore F dX6_falls_183 (Nat.le_of_ble_eq_true rfl) ?_
      refine z_leq (L' := [_, _, _, _, _, _, _, _, _]) rfl ?_
      refine z_aload_n F dX6_falls_185 rfl ?_
      refine z_ma F rfl 59 rfl (Nat.le_of_ble_eq_true rfl) rfl q1539 dX6_falls_186 ?_
      refine z_iconst F (nI 0) dX6_falls_189 rfl ?_
      refine z_iload F dX6_falls_190 rfl ?_
      refine z_iastGN F rfl rfl (Nat.le_of_ble_eq_true rfl) (by omega) dX6_falls_192 ?_
      refine z_weq (w' := [_, _]) rfl ?_
      refine z_aload_n F dX6_falls_193 rfl ?_
      refine z_ma F rfl 59 rfl (Nat.le_of_ble_eq_true rfl) rfl q1539 dX6_falls_194 ?_
      refine z_iconst F (nI 1) dX6_falls_197 rfl ?_
      refine z_iload F dX6_falls_198 rfl ?_
      refine z_iastGN F rfl rfl (Nat.le_of_ble_eq_true rfl) (by omega) dX6_falls_200 ?_
      refine z_weq (w' := [_, _]) rfl ?_
      refine z_iincN F 1 dX6_falls_201 rfl rfl ?_
      refine z_leq (L' := [_, _, _, _, _, _, _, _, _]) rfl ?_
      refine z_goto F (tgt := 141) dX6_falls_204 (by decide) ?_
      have ex := fax_lt (i := i) (j := j) hB hle c_175
      rw [ex] at kk
      refine z_loc _ ?_ (kk F2 (zup2 (zup2 A2 59 0 (nI i)) 59 1 (nI j)) (by rw [g1.at 0 rfl]; exact f0) (by rw [g1.at 4 rfl]; exact f4) (by rw [g1.at 58 rfl]; exact f58) (hF.tr g1 (by decide) (by decide)) (frm_zup (frm_zup (hA.tr g2 (by decide) (by decide)) (by decide)) (by decide)) ((hE.to (g2.at 21 rfl) (g2.at 22 rfl)).to (by rw [zup2_ne (by decide), zup2_ne (by decide)]) (by rw [zup2_ne (by decide), zup2_ne (by decide)])) (fun k hk => by rw [zup2_ne (by decide), zup2_ne (by decide), g2.at 6 rfl]; exact hf k hk) (fun b e => by
        cases e
        rw [zup2_row, zup2_row]
        exact ⟨rfl, rfl⟩))
      exact ⟨rfl, rfl, rfl, rfl, rfl, rfl, rfl, trivial⟩
    · refine z_goto F (tgt := 201) dX6_falls_178 (by decide) ?_
      refine z_iincN F 1 dX6_falls_201 rfl rfl ?_
      refine z_leq (L' := [_, _, _, _, _, _, _, _, _]) rfl ?_
      refine z_goto F (tgt := 141) dX6_falls_204 (by decide) ?_
      have ex := fax_ge (i := i) (j := j) hB hle c_175
      rw [ex] at kk
      refine z_loc _ ?_ (kk F2 A2 (by rw [g1.at 0 rfl]; exact f0) (by rw [g1.at 4 rfl]; exact f4) (by rw [g1.at 58 rfl]; exact f58) (hF.tr g1 (by decide) (by decide)) (hA.tr g2 (by decide) (by decide)) (hE.to (g2.at 21 rfl) (g2.at 22 rfl)) (fun k hk => by rw [g2.at 6 rfl]; exact hf k hk) (fun b e => by rw [g2.at 59 rfl]; exact hb b e))
      exact ⟨rfl, rfl, rfl, rfl, rfl, rfl, rfl, trivial⟩
  have tail1 : many = 1 → ∀ (o : Option (Nat × Nat × Nat)) (i : Nat) (F1 : Nat → Int32) (A1 : Nat → Nat → Int32), i < flN kind n f → Z X [some (zr 1 0), none, some (zi (nI kind)), some (zi (nI many)), some (zi (nI (flN kind n f))), some (zi (fvI o)), some (zi (nI (i + 1))), none, none] [] [zH, zG F1 G A1 B] 0 0 114 → Z X [some (zr 1 0), none, some (zi (nI kind)), some (zi (nI many)), some (zi (nI (flN kind n f))), some (zi (fvI o)), some (zi (nI i)), some (zi (nI (i + 1))), none] [] [zH, zG F1 G A1 B] 0 0 141 := by
    intro e1 o i F1 A1 hi kk
    refine z_iload F dX6_falls_141 rfl ?_
    refine z_iload_n F dX6_falls_143 rfl ?_
    refine z_iconst F (nI 1) dX6_falls_144 rfl ?_
    refine z_icmp_neN F (by omega) (by omega) (tgt := 155) dX6_falls_145 (by decide) (fun c_145 => ?_) (fun c_145 => ?_)
    · exact absurd c_145 (by omega)
    · refine z_iload F dX6_falls_148 rfl ?_
      refine z_iconst F (nI 1) dX6_falls_150 rfl ?_
      refine z_iaddN F dX6_falls_151 ?_
      refine z_goto F (tgt := 157) dX6_falls_152 (by decide) ?_
      refine z_icmp_geN F (by omega) (by omega) (tgt := 207) dX6_falls_157 (by decide) (fun c_157 => ?_) (fun c_157 => ?_)
      · refine z_iincN F 1 dX6_falls_207 rfl rfl ?_
        refine z_leq (L' := [_, _, _, _, _, _, _, _, _]) rfl ?_
        refine z_goto F (tgt := 114) dX6_falls_210 (by decide) ?_
        refine z_loc _ ?_ kk
        exact ⟨rfl, rfl, rfl, rfl, rfl, rfl, trivial⟩
      · exact absurd c_157 (by omega)
  have one : many = 1 → ¬ few many kind n f → ∀ (m i : Nat) (F1 : Nat → Int32) (A1 : Nat → Nat → Int32), flN kind n f - i < m → i ≤ flN kind n f → F1 0 = nI 0 → F1 4 = nI n → F1 58 = nI many → frm [0, 4, 5, 20, 24, 25, 58] F0 F1 → frm [6, 21, 22, 23, 59] A A1 → LnE A1 (prs n f) → (∀ k, k < 24 → A1 6 k = f k) → (∀ b, fa1 (flV n f kind) i = some b → A1 59 0 = nI b.2.1 ∧ A1 59 1 = nI b.2.2) → Z X [some (zr 1 0), none, some (zi (nI kind)), some (zi (nI many)), some (zi (nI (flN kind n f))), some (zi (fvI (fa1 (flV n f kind) i))), some (zi (nI i)), none, none] [] [zH, zG F1 G A1 B] 0 0 114 := by
    intro e1 hnf m
    induction m with
    | zero => intro i F1 A1 hm; omega
    | succ m ih =>
      intro i F1 A1 hm hi f0 f4 f58 hF hA hE hf hb
      have hO : flO many kind n f = fa1 (flV n f kind) (flN kind n f) := by unfold flO; rw [if_neg (by omega), if_pos e1]
      have hB := fa1_B (N := flN kind n f) (flV_le n f kind) i hi
      refine z_iload F dX6_falls_114 rfl ?_
      refine z_iload F dX6_falls_116 rfl ?_
      refine z_icmp_geN F (by omega) (by omega) (tgt := 213) dX6_falls_118 (by decide) (fun c_118 => ?_) (fun c_118 => ?_)
      · have ei : i = flN kind n f := by omega
        subst ei
        refine z_loc _ ?_ (end_ _ F1 A1 hnf hO f0 f58 hF hA (fun b e => ⟨fun _ => (hb b e).1, fun _ => (hb b e).2⟩))
        exact ⟨rfl, trivial⟩
      · refine z_iload_n F dX6_falls_121 rfl ?_
        refine z_if_leN F (by omega) (tgt := 213) dX6_falls_122 (by decide) (fun c_122 => ?_) (fun c_122 => ?_)
        · exact absurd c_122 (by omega)
        · refine z_iload_n F dX6_falls_125 rfl ?_
          refine z_iconst F (nI 1) dX6_falls_126 rfl ?_
          refine z_icmp_neN F (by omega) (by omega) (tgt := 135) dX6_falls_127 (by decide) (fun c_127 => ?_) (fun c_127 => ?_)
          · exact absurd c_127 (by omega)
          · refine z_iload F dX6_falls_130 rfl ?_
            refine z_goto F (tgt := 139) dX6_falls_132 (by decide) ?_
            refine z_istore F dX6_falls_139 (Nat.le_of_ble_eq_true rfl) ?_
            refine z_leq (L' := [_, _, _, _, _, _, _, _, _]) rfl ?_
            refine z_iload F dX6_falls_141 rfl ?_
            refine z_iload_n F dX6_falls_143 rfl ?_
            refine z_iconst F (nI 1) dX6_falls_144 rfl ?_
            refine z_icmp_neN F (by omega) (by omega) (tgt := 155) dX6_falls_145 (by decide) (fun c_145 => ?_) (fun c_145 => ?_)
            · exact absurd c_145 (by omega)
            · refine z_iload F dX6_falls_148 rfl ?_
              refine z_iconst F (nI 1) dX6_falls_150 rfl ?_
              refine z_iaddN F dX6_falls_151 ?_
              refine z_goto F (tgt := 157) dX6_falls_152 (by decide) ?_
              refine z_icmp_geN F (by omega) (by omega) (tgt := 207) dX6_falls_157 (by decide) (fun c_157 => ?_) (fun c_157 => ?_)
              · exact absurd c_157 (by omega)
              · refine body (fa1 (flV n f kind) i) i i F1 A1 hB (by omega) (by omega) f0 f4 f58 hF hA hE hf hb (fun F2 A2 k0 k4 k58 kF kA kE kf kb => ?_)
                have nx := ih (i + 1) F2 A2 (by omega) (by omega) k0 k4 k58 kF kA kE kf kb
                exact tail1 e1 (fax (fa1 (flV n f kind) i) (flV n f kind i i) i i) i F2 A2 (by omega) nx
  have two : many = 2 → ¬ few many kind n f → ∀ (m i : Nat) (F1 : Nat → Int32) (A1 : Nat → Nat → Int32), flN kind n f - i < m → i ≤ flN kind n f → F1 0 = nI 0 → F1 4 = nI n → F1 58 = nI many → frm [0, 4, 5, 20, 24, 25, 58] F0 F1 → frm [6, 21, 22, 23, 59] A A1 → LnE A1 (prs n f) → (∀ k, k < 24 → A1 6 k = f k) → (∀ b, fa2 (flV n f kind) (flN kind n f) i = some b → A1 59 0 = nI b.2.1 ∧ A1 59 1 = nI b.2.2) → Z X [some (zr 1 0), none, some (zi (nI kind)), some (zi (nI many)), some (zi (nI (flN kind n f))), some (zi (fvI (fa2 (flV n f kind) (flN kind n f) i))), some (zi (nI i)), none, none] [] [zH, zG F1 G A1 B] 0 0 114 := by
    intro e2 hnf m
    induction m with
    | zero => intro i F1 A1 hm; omega
    | succ m ih =>
      intro i F1 A1 hm hi f0 f4 f58 hF hA hE hf hb
      have hO : flO many kind n f = fa2 (flV n f kind) (flN kind n f) (flN kind n f) := by unfold flO; rw [if_neg (by omega), if_neg (by omega)]
      have hB0 := fa2_B (N := flN kind n f) (flV_le n f kind) i
      have inn : i < flN kind n f → ∀ (u j : Nat) (F2 : Nat → Int32) (A2 : Nat → Nat → Int32), flN kind n f - j < u → i < j → j ≤ flN kind n f → F2 0 = nI 0 → F2 4 = nI n → F2 58 = nI many → frm [0, 4, 5, 20, 24, 25, 58] F0 F2 → frm [6, 21, 22, 23, 59] A A2 → LnE A2 (prs n f) → (∀ k, k < 24 → A2 6 k = f k) → (∀ b, faR (flV n f kind) i (fa2 (flV n f kind) (flN kind n f) i) j = some b → A2 59 0 = nI b.2.1 ∧ A2 59 1 = nI b.2.2) → Z X [some (zr 1 0), none, some (zi (nI kind)), some (zi (nI many)), some (zi (nI (flN kind n f))), some (zi (fvI (faR (flV n f kind) i (fa2 (flV n f kind) (flN kind n f) i) j))), some (zi (nI i)), some (zi (nI j)), none] [] [zH, zG F2 G A2 B] 0 0 141 := by
        intro hiN u
        induction u with
        | zero => intro j F2 A2 hu; omega
        | succ u ih2 =>
          intro j F2 A2 hu hij hj k0 k4 k58 kF kA kE kf kb
          refine z_iload F dX6_falls_141 rfl ?_
          refine z_iload_n F dX6_falls_143 rfl ?_
          refine z_iconst F (nI 1) dX6_falls_144 rfl ?_
          refine z_icmp_neN F (by omega) (by omega) (tgt := 155) dX6_falls_145 (by decide) (fun c_145 => ?_) (fun c_145 => ?_)
          · refine z_iload F dX6_falls_155 rfl ?_
            refine z_icmp_geN F (by omega) (by omega) (tgt := 207) dX6_falls_157 (by decide) (fun c_157 => ?_) (fun c_157 => ?_)
            · have ej : j = flN kind n f := by omega
              subst ej
              refine z_iincN F 1 dX6_falls_207 rfl rfl ?_
              refine z_leq (L' := [_, _, _, _, _, _, _, _, _]) rfl ?_
              refine z_goto F (tgt := 114) dX6_falls_210 (by decide) ?_
              refine z_loc _ ?_ (ih (i + 1) F2 A2 (by omega) (by omega) k0 k4 k58 kF kA kE kf kb)
              exact ⟨rfl, rfl, rfl, rfl, rfl, rfl, trivial⟩
            · refine body _ i j F2 A2 (faR_B (flV_le n f kind) hB0 j hj) hiN (by omega) k0 k4 k58 kF kA kE kf kb (fun F3 A3 l0 l4 l58 lF lA lE lf lb => ?_)
              have ex : faR (flV n f kind) i (fa2 (flV n f kind) (flN kind n f) i) (j + 1) = fax (faR (flV n f kind) i (fa2 (flV n f kind) (flN kind n f) i) j) (flV n f kind i j) i j := if_pos hij
              have nx := ih2 (j + 1) F3 A3 (by omega) (by omega) (by omega) l0 l4 l58 lF lA lE lf (by rw [ex]; exact lb)
              rw [ex] at nx
              exact nx
          · exact absurd c_145 (by omega)
      refine z_iload F dX6_falls_114 rfl ?_
      refine z_iload F dX6_falls_116 rfl ?_
      refine z_icmp_geN F (by omega) (by omega) (tgt := 213) dX6_falls_118 (by decide) (fun c_118 => ?_) (fun c_118 => ?_)
      · have ei : i = flN kind n f := by omega
        subst ei
        refine z_loc _ ?_ (end_ _ F1 A1 hnf hO f0 f58 hF hA (fun b e => ⟨fun _ => (hb b e).1, fun _ => (hb b e).2⟩))
        exact ⟨rfl, trivial⟩
      · refine z_iload_n F dX6_falls_121 rfl ?_
        refine z_if_leN F (by omega) (tgt := 213) dX6_falls_122 (by decide) (fun c_122 => ?_) (fun c_122 => ?_)
        · exact absurd c_122 (by omega)
        · refine z_iload_n F dX6_falls_125 rfl ?_
          refine z_iconst F (nI 1) dX6_falls_126 rfl ?_
          refine z_icmp_neN F (by omega) (by omega) (tgt := 135) dX6_falls_127 (by decide) (fun c_127 => ?_) (fun c_127 => ?_)
          · refine z_iload F dX6_falls_135 rfl ?_
            refine z_iconst F (nI 1) dX6_falls_137 rfl ?_
            refine z_iaddN F dX6_falls_138 ?_
            refine z_istore F dX6_falls_139 (Nat.le_of_ble_eq_true rfl) ?_
            refine z_leq (L' := [_, _, _, _, _, _, _, _, _]) rfl ?_
            have e9 := faR_ge (val := flV n f kind) (i := i) (o := fa2 (flV n f kind) (flN kind n f) i) (i + 1) (Nat.le_refl _)
            have nx := inn (by omega) (flN kind n f + 1) (i + 1) F1 A1 (by omega) (by omega) (by omega) f0 f4 f58 hF hA hE hf (by rw [e9]; exact hb)
            rw [e9] at nx
            exact nx
          · exact absurd c_127 (by omega)
  have at88 : ¬ few many kind n f → ∀ (F1 : Nat → Int32) (A1 : Nat → Nat → Int32), F1 0 = nI 0 → F1 4 = nI n → frm [0, 4, 5, 20, 24, 25, 58] F0 F1 → frm [6, 21, 22, 23, 59] A A1 → LnE A1 (prs n f) → (∀ k, k < 24 → A1 6 k = f k) → Z X [some (zr 1 0), none, some (zi (nI kind)), some (zi (nI many)), some (zi (nI (flN kind n f))), none, none, none, none] [] [zH, zG F1 G A1 B] 0 0 88 := by
    intro hnf F1 A1 f0 f4 hF hA hE hf
    have zero : ∀ (F2 : Nat → Int32) (A2 : Nat → Nat → Int32), many = 0 → F2 0 = nI 0 → F2 58 = nI many → frm [0, 4, 5, 20, 24, 25, 58] F0 F2 → frm [6, 21, 22, 23, 59] A A2 → Z X [some (zr 1 0), none, some (zi (nI kind)), some (zi (nI many)), some (zi (nI (flN kind n f))), some (zi (nI (cfar n f (allB n)))), some (zi (nI 0)), none, none] [] [zH, zG F2 G A2 B] 0 0 114 := by
      intro F2 A2 e0 k0 k58 kF kA
      have hO : flO many kind n f = some (cfar n f (allB n), 0, 0) := if_pos e0
      refine z_iload F dX6_falls_114 rfl ?_
      refine z_iload F dX6_falls_116 rfl ?_
      refine z_icmp_geN F (by omega) (by omega) (tgt := 213) dX6_falls_118 (by decide) (fun c_118 => ?_) (fun c_118 => ?_)
      · refine z_loc _ ?_ (end_ _ F2 A2 hnf hO k0 k58 kF kA (fun b e => ⟨fun z => by omega, fun z => by omega⟩))
        exact ⟨rfl, trivial⟩
      · refine z_iload_n F dX6_falls_121 rfl ?_
        refine z_if_leN F (by omega) (tgt := 213) dX6_falls_122 (by decide) (fun c_122 => ?_) (fun c_122 => ?_)
        · refine z_loc _ ?_ (end_ _ F2 A2 hnf hO k0 k58 kF kA (fun b e => ⟨fun z => by omega, fun z => by omega⟩))
          exact ⟨rfl, trivial⟩
        · exact absurd c_122 (by omega)
    refine z_iload_n F dX6_falls_88 rfl ?_
    refine z_if_neN F (by omega) (tgt := 103) dX6_falls_89 (by decide) (fun c_89 => ?_) (fun c_89 => ?_)
    · refine z_iconst F (-1) dX6_falls_103 rfl ?_
      refine z_istore F dX6_falls_104 (Nat.le_of_ble_eq_true rfl) ?_
      refine z_leq (L' := [_, _, _, _, _, _, _, _, _]) rfl ?_
      refine z_aload_n F dX6_falls_106 rfl ?_
      refine z_iload_n F dX6_falls_107 rfl ?_
      refine z_pmi F rfl 58 rfl (Nat.le_of_ble_eq_true rfl) rfl q1538 rfl rfl rfl dX6_falls_108 ?_
      refine z_weq (w' := [_, _]) rfl ?_
      refine z_iconst F (nI 0) dX6_falls_111 rfl ?_
      refine z_istore F dX6_falls_112 (Nat.le_of_ble_eq_true rfl) ?_
      refine z_leq (L' := [_, _, _, _, _, _, _, _, _]) rfl ?_
      rcases (show many = 1 ∨ many = 2 by omega) with e1 | e2
      · exact one e1 hnf (flN kind n f + 1) 0 (upd F1 58 (nI many)) A1 (by omega) (by omega) (by rw [upd_at, if_neg (by decide)]; exact f0) (by rw [upd_at, if_neg (by decide)]; exact f4) rfl (frm_upd hF (by decide)) hA hE hf (fun b e => by cases e)
      · exact two e2 hnf (flN kind n f + 1) 0 (upd F1 58 (nI many)) A1 (by omega) (by omega) (by rw [upd_at, if_neg (by decide)]; exact f0) (by rw [upd_at, if_neg (by decide)]; exact f4) rfl (frm_upd hF (by decide)) hA hE hf (fun b e => by cases e)
    · refine z_aload_n F dX6_falls_92 rfl ?_
      refine z_aload_n F dX6_falls_93 rfl ?_
      refine z_callV F (c_mall F1 G A1 B n hn f4) 0 rfl (lw_V q1880 q1882 qs63 q117 q1883) (by decide +kernel) ⟨Nat.le_of_ble_eq_true rfl, Nat.le_of_ble_eq_true rfl⟩ ⟨by omega, by omega⟩ [0, 1] 2 ⟨rfl, rfl, rfl, ⟨Or.inl rfl, Or.inr rfl, trivial⟩⟩ (fun h => nomatch h) (Nat.le_of_ble_eq_true rfl) ⟨⟨Or.inr trivial, Or.inl rfl, trivial⟩, rfl, rfl, rfl, Nat.le_of_ble_eq_true rfl⟩ rfl zC6 (zat_G0 rfl) rfl dX6_falls_94 (fun r_94 w_94 hp => ?_) (fun _ _ h => h.elim)
      obtain ⟨rfl, rfl⟩ := hp
      refine z_weq (w' := [zH, zG _ _ _ _]) rfl ?_
      refine z_seq (S' := zi _ :: _) rfl ?_
      refine z_callV F (c_mfarOf F1 G A1 B n d f (allB n) h (al_lt hn) f4 (fun k hk => hf k (by omega))) 1 rfl (lw_V q2027 q2029 qs86 q117 q2030) (by decide +kernel) ⟨Nat.le_of_ble_eq_true rfl, Nat.le_of_ble_eq_true rfl⟩ ⟨by omega, by omega⟩ [0, 1] 2 ⟨rfl, rfl, rfl, ⟨Or.inl rfl, Or.inr rfl, trivial⟩⟩ (fun h => nomatch h) (Nat.le_of_ble_eq_true rfl) ⟨⟨Or.inr trivial, Or.inl rfl, trivial⟩, rfl, rfl, rfl, Nat.le_of_ble_eq_true rfl⟩ rfl zC6 (zat_G0 rfl) rfl dX6_falls_97 (fun r_97 w_97 hp => ?_) (fun _ _ h => h.elim)
      obtain ⟨rfl, F2, A2, rfl, g1, g2⟩ := hp
      refine z_weq (w' := [zH, zG _ _ _ _]) rfl ?_
      refine z_seq (S' := zi _ :: _) rfl ?_
      refine z_goto F (tgt := 104) dX6_falls_100 (by decide) ?_
      refine z_istore F dX6_falls_104 (Nat.le_of_ble_eq_true rfl) ?_
      refine z_leq (L' := [_, _, _, _, _, _, _, _, _]) rfl ?_
      refine z_aload_n F dX6_falls_106 rfl ?_
      refine z_iload_n F dX6_falls_107 rfl ?_
      refine z_pmi F rfl 58 rfl (Nat.le_of_ble_eq_true rfl) rfl q1538 rfl rfl rfl dX6_falls_108 ?_
      refine z_weq (w' := [_, _]) rfl ?_
      refine z_iconst F (nI 0) dX6_falls_111 rfl ?_
      refine z_istore F dX6_falls_112 (Nat.le_of_ble_eq_true rfl) ?_
      refine z_leq (L' := [_, _, _, _, _, _, _, _, _]) rfl ?_
      exact zero (upd F2 58 (nI many)) A2 (by omega) (by rw [upd_at, if_neg (by decide), g1.at 0 rfl]; exact f0) rfl (frm_upd (hF.tr g1 (by decide) (by decide)) (by decide)) (hA.tr g2 (by decide) (by decide))
  have at65 : ∀ (v : Int32) (F1 : Nat → Int32) (A1 : Nat → Nat → Int32), v = nI (flN kind n f) → F1 0 = nI 0 → F1 4 = nI n → F1 58 = F0 58 → A1 59 = A 59 → frm [0, 4, 5, 20, 24, 25, 58] F0 F1 → frm [6, 21, 22, 23, 59] A A1 → LnE A1 (prs n f) → (∀ k, k < 24 → A1 6 k = f k) → Z X [some (zr 1 0), none, some (zi (nI kind)), some (zi (nI many)), none, none, none, none, none] [zi v] [zH, zG F1 G A1 B] 0 0 65 := by
    intro v F1 A1 hv f0 f4 f58 a59 hF hA hE hf
    subst hv
    refine z_istore F dX6_falls_65 (Nat.le_of_ble_eq_true rfl) ?_
    refine z_leq (L' := [_, _, _, _, _, _, _, _, _]) rfl ?_
    refine z_iload_n F dX6_falls_67 rfl ?_
    refine z_iload F dX6_falls_68 rfl ?_
    refine z_icmp_gtN F (by omega) (by omega) (tgt := 86) dX6_falls_70 (by decide) (fun c_70 => ?_) (fun c_70 => ?_)
    · refine z_iconst F (-1) dX6_falls_86 rfl ?_
      exact z_iret F E rfl dX6_falls_87 (by omega) (by omega) (⟨F1, A1, rfl, f0, hF, hA, Or.inl ⟨Or.inl (by omega), rfl, f58, a59⟩⟩)
    · refine z_iload_n F dX6_falls_73 rfl ?_
      refine z_iconst F (nI 1) dX6_falls_74 rfl ?_
      refine z_icmp_neN F (by omega) (by omega) (tgt := 88) dX6_falls_75 (by decide) (fun c_75 => ?_) (fun c_75 => ?_)
      · exact at88 (fun z => z.elim (fun z => by omega) (fun z => by omega)) F1 A1 f0 f4 hF hA hE hf
      · refine z_iload_n F dX6_falls_78 rfl ?_
        refine z_aload_n F dX6_falls_79 rfl ?_
        refine z_mi F rfl 4 rfl (Nat.le_of_ble_eq_true rfl) rfl q1484 dX6_falls_80 ?_
        refine z_ieq (f4) ?_
        refine z_icmp_neN F (by omega) (by omega) (tgt := 88) dX6_falls_83 (by decide) (fun c_83 => ?_) (fun c_83 => ?_)
        · exact at88 (fun z => z.elim (fun z => by omega) (fun z => by omega)) F1 A1 f0 f4 hF hA hE hf
        · refine z_iconst F (-1) dX6_falls_86 rfl ?_
          exact z_iret F E rfl dX6_falls_87 (by omega) (by omega) (⟨F1, A1, rfl, f0, hF, hA, Or.inl ⟨Or.inr ⟨by omega, by omega⟩, rfl, f58, a59⟩⟩)
  refine z_aload_n F dX6_falls_0 rfl ?_
  refine z_iload_n F dX6_falls_1 rfl ?_
  refine z_callV F (c_lays_ok _ _ _ _ s n (nI d) f hs8 (by omega) hn hs) 1 rfl (lw_V q1732 q1734 qs42 q117 q1735) (by decide +kernel) ⟨Nat.le_of_ble_eq_true rfl, Nat.le_of_ble_eq_true rfl⟩ ⟨by omega, by omega⟩ [0, 1] 2 ⟨rfl, rfl, rfl, ⟨Or.inl rfl, Or.inr rfl, trivial⟩⟩ (fun h => nomatch h) (Nat.le_of_ble_eq_true rfl) ⟨⟨Or.inr trivial, Or.inl rfl, trivial⟩, rfl, rfl, rfl, Nat.le_of_ble_eq_true rfl⟩ rfl zC6 (zat_G0 rfl) rfl dX6_falls_2 (fun r_2 w_2 hp => ?_) (fun _ _ h => h.elim)
  obtain ⟨rfl, F1, A1, rfl, f0, f1, f2, f3⟩ := hp
  refine z_weq (w' := [zH, zG _ _ _ _]) rfl ?_
  refine z_seq (S' := zi _ :: _) rfl ?_
  refine z_if_eqB F (tgt := 44) dX6_falls_5 (by decide) (fun c_5 => ?_) (fun c_5 => ?_)
  · cases c_5
  · refine z_aload_n F dX6_falls_8 rfl ?_
    refine z_iload_n F dX6_falls_9 rfl ?_
    refine z_if_eqN F (by omega) (tgt := 18) dX6_falls_10 (by decide) (fun c_10 => ?_) (fun c_10 => ?_)
    · refine z_iconstB F true dX6_falls_18 rfl ?_
      refine z_goto F (tgt := 23) dX6_falls_19 (by decide) ?_
      refine z_iconst F (nI 1) dX6_falls_23 rfl ?_
      refine z_callV F (c_right _ _ _ _ true 1 f0 (by omega) (by omega)) 2 rfl (lw_V q1736 q1738 qs43 q117 q1739) (by decide +kernel) ⟨Nat.le_of_ble_eq_true rfl, Nat.le_of_ble_eq_true rfl⟩ ⟨by omega, by omega⟩ [0, 1] 2 ⟨rfl, rfl, rfl, ⟨Or.inl rfl, Or.inr rfl, trivial⟩⟩ (fun h => nomatch h) (Nat.le_of_ble_eq_true rfl) ⟨⟨Or.inr trivial, Or.inl rfl, trivial⟩, rfl, rfl, rfl, Nat.le_of_ble_eq_true rfl⟩ rfl zC6 (zat_G0 rfl) rfl dX6_falls_24 (fun r_24 w_24 hp => ?_) (fun _ _ h => h.elim)
      obtain ⟨rfl, rfl⟩ := hp
      refine z_weq (w' := [zH, zG _ _ _ _]) rfl ?_
      refine z_seq (S' := zi _ :: _) rfl ?_
      refine z_if_eqB F (tgt := 44) dX6_falls_27 (by decide) (fun c_27 => ?_) (fun c_27 => ?_)
      · cases c_27
      · refine z_aload_n F dX6_falls_30 rfl ?_
        refine z_iload_n F dX6_falls_31 rfl ?_
        refine z_iconst F (nI 0) dX6_falls_32 rfl ?_
        refine z_iconst F (nI 2) dX6_falls_33 rfl ?_
        refine z_callS F (c_within (nI many) (nI 0) (nI 2)) 3 rfl (lw_S q1717 q1718 q117 q1719) (by decide +kernel) ⟨Nat.le_of_ble_eq_true rfl, Nat.le_of_ble_eq_true rfl⟩ ⟨by omega, by omega⟩ [0] 2 ⟨rfl, rfl, rfl, ⟨Or.inl rfl, trivial⟩⟩ (fun h => nomatch h) (Nat.le_of_ble_eq_true rfl) ⟨⟨Or.inr trivial, Or.inr trivial, trivial⟩, rfl, rfl, rfl, Nat.le_of_ble_eq_true rfl⟩ rfl rfl dX6_falls_34 (fun r_34 w_34 hp => ?_) (fun _ _ h => h.elim)
        obtain ⟨rfl, rfl⟩ := hp
        refine z_weq (w' := [zH, zG _ _ _ _]) rfl ?_
        refine z_seq (S' := zi _ :: _) rfl ?_
        rw [show inB (nI many) (nI 0) (nI 2) = true from inB_n (by omega) (by omega) (by omega)]
        refine z_iconst F (nI 2) dX6_falls_37 rfl ?_
        refine z_callV F (c_right _ _ _ _ true 2 f0 (by omega) (by omega)) 2 rfl (lw_V q1736 q1738 qs43 q117 q1739) (by decide +kernel) ⟨Nat.le_of_ble_eq_true rfl, Nat.le_of_ble_eq_true rfl⟩ ⟨by omega, by omega⟩ [0, 1] 2 ⟨rfl, rfl, rfl, ⟨Or.inl rfl, Or.inr rfl, trivial⟩⟩ (fun h => nomatch h) (Nat.le_of_ble_eq_true rfl) ⟨⟨Or.inr trivial, Or.inl rfl, trivial⟩, rfl, rfl, rfl, Nat.le_of_ble_eq_true rfl⟩ rfl zC6 (zat_G0 rfl) rfl dX6_falls_38 (fun r_38 w_38 hp => ?_) (fun _ _ h => h.elim)
        obtain ⟨rfl, rfl⟩ := hp
        refine z_weq (w' := [zH, zG _ _ _ _]) rfl ?_
        refine z_seq (S' := zi _ :: _) rfl ?_
        refine z_if_neB F (tgt := 46) dX6_falls_41 (by decide) (fun c_41 => ?_) (fun c_41 => ?_)
        · refine z_aload_n F dX6_falls_46 rfl ?_
          refine z_callV F (c_lists F1 _ _ _ n f hn h96 f3.1 (fun k hk => f3.2.2 k (by omega))) 0 rfl (lw_V q1868 q1870 qs62 q117 q1871) (by decide +kernel) ⟨Nat.le_of_ble_eq_true rfl, Nat.le_of_ble_eq_true rfl⟩ ⟨by omega, by omega⟩ [0, 1] 2 ⟨rfl, rfl, rfl, ⟨Or.inl rfl, Or.inr rfl, trivial⟩⟩ (fun h => nomatch h) (Nat.le_of_ble_eq_true rfl) ⟨⟨Or.inr trivial, Or.inl rfl, trivial⟩, rfl, rfl, rfl, Nat.le_of_ble_eq_true rfl⟩ rfl zC6 (zat_G0 rfl) rfl dX6_falls_47 (fun r_47 w_47 hp => ?_) (fun _ _ h => h.elim)
          obtain ⟨rfl, A2, rfl, g1, g2⟩ := hp
          refine z_weq (w' := [zH, zG _ _ _ _]) rfl ?_
          refine z_seq (S' := []) rfl ?_
          refine z_iload_n F dX6_falls_50 rfl ?_
          refine z_if_neN F (by omega) (tgt := 61) dX6_falls_51 (by decide) (fun c_51 => ?_) (fun c_51 => ?_)
          · refine z_aload_n F dX6_falls_61 rfl ?_
            refine z_mi F rfl 4 rfl (Nat.le_of_ble_eq_true rfl) rfl q1484 dX6_falls_62 ?_
            refine z_ieq (f3.1) ?_
            refine z_loc _ ?_ (at65 (nI n) (upd F1 20 (nI (prs n f).length)) A2 (by rw [flN, if_neg (by omega)]) (by rw [upd_at, if_neg (by decide)]; exact f0) (by rw [upd_at, if_neg (by decide)]; exact f3.1) (by rw [upd_at, if_neg (by decide), f1.at 58 rfl]) (by rw [g1.at 59 rfl, f2.at 59 rfl]) (frm_upd (f1.to (by decide)) (by decide)) (f2.tr g1 (by decide) (by decide)) g2 (fun k hk => by rw [g1.at 6 rfl]; exact f3.2.2 k hk))
            exact ⟨rfl, rfl, rfl, trivial⟩
          · refine z_aload_n F dX6_falls_54 rfl ?_
            refine z_mi F rfl 20 rfl (Nat.le_of_ble_eq_true rfl) rfl q1500 dX6_falls_55 ?_
            refine z_ieq ((rfl : upd F1 20 (nI (prs n f).length) 20 = nI (prs n f).length)) ?_
            refine z_goto F (tgt := 65) dX6_falls_58 (by decide) ?_
            refine z_loc _ ?_ (at65 (nI (prs n f).length) (upd F1 20 (nI (prs n f).length)) A2 (by rw [flN, if_pos (by omega)]) (by rw [upd_at, if_neg (by decide)]; exact f0) (by rw [upd_at, if_neg (by decide)]; exact f3.1) (by rw [upd_at, if_neg (by decide), f1.at 58 rfl]) (by rw [g1.at 59 rfl, f2.at 59 rfl]) (frm_upd (f1.to (by decide)) (by decide)) (f2.tr g1 (by decide) (by decide)) g2 (fun k hk => by rw [g1.at 6 rfl]; exact f3.2.2 k hk))
            exact ⟨rfl, rfl, rfl, trivial⟩
        · cases c_41
    · refine z_iload_n F dX6_falls_13 rfl ?_
      refine z_iconst F (nI 1) dX6_falls_14 rfl ?_
      refine z_icmp_neN F (by omega) (by omega) (tgt := 22) dX6_falls_15 (by decide) (fun c_15 => ?_) (fun c_15 => ?_)
      · exact absurd c_15 (by omega)
      · refine z_iconstB F true dX6_falls_18 rfl ?_
        refine z_goto F (tgt := 23) dX6_falls_19 (by decide) ?_
        refine z_iconst F (nI 1) dX6_falls_23 rfl ?_
        refine z_callV F (c_right _ _ _ _ true 1 f0 (by omega) (by omega)) 2 rfl (lw_V q1736 q1738 qs43 q117 q1739) (by decide +kernel) ⟨Nat.le_of_ble_eq_true rfl, Nat.le_of_ble_eq_true rfl⟩ ⟨by omega, by omega⟩ [0, 1] 2 ⟨rfl, rfl, rfl, ⟨Or.inl rfl, Or.inr rfl, trivial⟩⟩ (fun h => nomatch h) (Nat.le_of_ble_eq_true rfl) ⟨⟨Or.inr trivial, Or.inl rfl, trivial⟩, rfl, rfl, rfl, Nat.le_of_ble_eq_true rfl⟩ rfl zC6 (zat_G0 rfl) rfl dX6_falls_24 (fun r_24 w_24 hp => ?_) (fun _ _ h => h.elim)
        obtain ⟨rfl, rfl⟩ := hp
        refine z_weq (w' := [zH, zG _ _ _ _]) rfl ?_
        refine z_seq (S' := zi _ :: _) rfl ?_
        refine z_if_eqB F (tgt := 44) dX6_falls_27 (by decide) (fun c_27 => ?_) (fun c_27 => ?_)
        · cases c_27
        · refine z_aload_n F dX6_falls_30 rfl ?_
          refine z_iload_n F dX6_falls_31 rfl ?_
          refine z_iconst F (nI 0) dX6_falls_32 rfl ?_
          refine z_iconst F (nI 2) dX6_falls_33 rfl ?_
          refine z_callS F (c_within (nI many) (nI 0) (nI 2)) 3 rfl (lw_S q1717 q1718 q117 q1719) (by decide +kernel) ⟨Nat.le_of_ble_eq_true rfl, Nat.le_of_ble_eq_true rfl⟩ ⟨by omega, by omega⟩ [0] 2 ⟨rfl, rfl, rfl, ⟨Or.inl rfl, trivial⟩⟩ (fun h => nomatch h) (Nat.le_of_ble_eq_true rfl) ⟨⟨Or.inr trivial, Or.inr trivial, trivial⟩, rfl, rfl, rfl, Nat.le_of_ble_eq_true rfl⟩ rfl rfl dX6_falls_34 (fun r_34 w_34 hp => ?_) (fun _ _ h => h.elim)
          obtain ⟨rfl, rfl⟩ := hp
          refine z_weq (w' := [zH, zG _ _ _ _]) rfl ?_
          refine z_seq (S' := zi _ :: _) rfl ?_
          rw [show inB (nI many) (nI 0) (nI 2) = true from inB_n (by omega) (by omega) (by omega)]
          refine z_iconst F (nI 2) dX6_falls_37 rfl ?_
          refine z_callV F (c_right _ _ _ _ true 2 f0 (by omega) (by omega)) 2 rfl (lw_V q1736 q1738 qs43 q117 q1739) (by decide +kernel) ⟨Nat.le_of_ble_eq_true rfl, Nat.le_of_ble_eq_true rfl⟩ ⟨by omega, by omega⟩ [0, 1] 2 ⟨rfl, rfl, rfl, ⟨Or.inl rfl, Or.inr rfl, trivial⟩⟩ (fun h => nomatch h) (Nat.le_of_ble_eq_true rfl) ⟨⟨Or.inr trivial, Or.inl rfl, trivial⟩, rfl, rfl, rfl, Nat.le_of_ble_eq_true rfl⟩ rfl zC6 (zat_G0 rfl) rfl dX6_falls_38 (fun r_38 w_38 hp => ?_) (fun _ _ h => h.elim)
          obtain ⟨rfl, rfl⟩ := hp
          refine z_weq (w' := [zH, zG _ _ _ _]) rfl ?_
          refine z_seq (S' := zi _ :: _) rfl ?_
          refine z_if_neB F (tgt := 46) dX6_falls_41 (by decide) (fun c_41 => ?_) (fun c_41 => ?_)
          · refine z_aload_n F dX6_falls_46 rfl ?_
            refine z_callV F (c_lists F1 _ _ _ n f hn h96 f3.1 (fun k hk => f3.2.2 k (by omega))) 0 rfl (lw_V q1868 q1870 qs62 q117 q1871) (by decide +kernel) ⟨Nat.le_of_ble_eq_true rfl, Nat.le_of_ble_eq_true rfl⟩ ⟨by omega, by omega⟩ [0, 1] 2 ⟨rfl, rfl, rfl, ⟨Or.inl rfl, Or.inr rfl, trivial⟩⟩ (fun h => nomatch h) (Nat.le_of_ble_eq_true rfl) ⟨⟨Or.inr trivial, Or.inl rfl, trivial⟩, rfl, rfl, rfl, Nat.le_of_ble_eq_true rfl⟩ rfl zC6 (zat_G0 rfl) rfl dX6_falls_47 (fun r_47 w_47 hp => ?_) (fun _ _ h => h.elim)
            obtain ⟨rfl, A2, rfl, g1, g2⟩ := hp
            refine z_weq (w' := [zH, zG _ _ _ _]) rfl ?_
            refine z_seq (S' := []) rfl ?_
            refine z_iload_n F dX6_falls_50 rfl ?_
            refine z_if_neN F (by omega) (tgt := 61) dX6_falls_51 (by decide) (fun c_51 => ?_) (fun c_51 => ?_)
            · refine z_aload_n F dX6_falls_61 rfl ?_
              refine z_mi F rfl 4 rfl (Nat.le_of_ble_eq_true rfl) rfl q1484 dX6_falls_62 ?_
              refine z_ieq (f3.1) ?_
              refine z_loc _ ?_ (at65 (nI n) (upd F1 20 (nI (prs n f).length)) A2 (by rw [flN, if_neg (by omega)]) (by rw [upd_at, if_neg (by decide)]; exact f0) (by rw [upd_at, if_neg (by decide)]; exact f3.1) (by rw [upd_at, if_neg (by decide), f1.at 58 rfl]) (by rw [g1.at 59 rfl, f2.at 59 rfl]) (frm_upd (f1.to (by decide)) (by decide)) (f2.tr g1 (by decide) (by decide)) g2 (fun k hk => by rw [g1.at 6 rfl]; exact f3.2.2 k hk))
              exact ⟨rfl, rfl, rfl, trivial⟩
            · refine z_aload_n F dX6_falls_54 rfl ?_
              refine z_mi F rfl 20 rfl (Nat.le_of_ble_eq_true rfl) rfl q1500 dX6_falls_55 ?_
              refine z_ieq ((rfl : upd F1 20 (nI (prs n f).length) 20 = nI (prs n f).length)) ?_
              refine z_goto F (tgt := 65) dX6_falls_58 (by decide) ?_
              refine z_loc _ ?_ (at65 (nI (prs n f).length) (upd F1 20 (nI (prs n f).length)) A2 (by rw [flN, if_pos (by omega)]) (by rw [upd_at, if_neg (by decide)]; exact f0) (by rw [upd_at, if_neg (by decide)]; exact f3.1) (by rw [upd_at, if_neg (by decide), f1.at 58 rfl]) (by rw [g1.at 59 rfl, f2.at 59 rfl]) (frm_upd (f1.to (by decide)) (by decide)) (f2.tr g1 (by decide) (by decide)) g2 (fun k hk => by rw [g1.at 6 rfl]; exact f3.2.2 k hk))
              exact ⟨rfl, rfl, rfl, trivial⟩
          · cases c_41
theorem c_mfalls_badK (F0 : Nat → Int32) (G : Nat → Int64) (A : Nat → Nat → Int32) (B : Nat → Nat → Int64) (s n d : Nat) (kind many : Int32) (f : Nat → Int32) (hs8 : s < 8) (h : nok n d f) (hs : Slt A s n (nI d) f) (hk : ¬ kind = nI 0 ∧ ¬ kind = nI 1) :
    zCtr yX6_falls cX6_falls 9 (some .int) 4 0 0 [zr 1 0, zi (nI s), zi kind, zi many] [zH, zG F0 G A B] (fun r w => r = some (zi (nI 0)) ∧ ∃ F' A', w = [zH, zG F' G A' B] ∧ F' 0 = nI 1 ∧ frm [0, 4, 5] F0 F' ∧ frm [6] A A') zNx := by
  refine z_start (by decide) [some (zr 1 0), some (zi (nI s)), some (zi kind), some (zi many), none, none, none, none, none] rfl (fun _ => Nat.le_of_ble_eq_true rfl) (fun _ => rfl) (fun X F E hno hin => ?_)
  have hn1 := h.n1
  have hn := h.n24
  refine z_aload_n F dX6_falls_0 rfl ?_
  refine z_iload_n F dX6_falls_1 rfl ?_
  refine z_callV F (c_lays_ok _ _ _ _ s n (nI d) f hs8 (by omega) hn hs) 1 rfl (lw_V q1732 q1734 qs42 q117 q1735) (by decide +kernel) ⟨Nat.le_of_ble_eq_true rfl, Nat.le_of_ble_eq_true rfl⟩ ⟨by omega, by omega⟩ [0, 1] 2 ⟨rfl, rfl, rfl, ⟨Or.inl rfl, Or.inr rfl, trivial⟩⟩ (fun h => nomatch h) (Nat.le_of_ble_eq_true rfl) ⟨⟨Or.inr trivial, Or.inl rfl, trivial⟩, rfl, rfl, rfl, Nat.le_of_ble_eq_true rfl⟩ rfl zC6 (zat_G0 rfl) rfl dX6_falls_2 (fun r_2 w_2 hp => ?_) (fun _ _ h => h.elim)
  obtain ⟨rfl, F1, A1, rfl, f0, f1, f2, f3⟩ := hp
  refine z_weq (w' := [zH, zG _ _ _ _]) rfl ?_
  refine z_seq (S' := zi _ :: _) rfl ?_
  refine z_if_eqB F (tgt := 44) dX6_falls_5 (by decide) (fun c_5 => ?_) (fun c_5 => ?_)
  · cases c_5
  · refine z_aload_n F dX6_falls_8 rfl ?_
    refine z_iload_n F dX6_falls_9 rfl ?_
    refine z_if_eq F (tgt := 18) dX6_falls_10 (by decide) (fun c_10 => ?_) (fun c_10 => ?_)
    · exact absurd c_10 hk.1
    · refine z_iload_n F dX6_falls_13 rfl ?_
      refine z_iconst F (nI 1) dX6_falls_14 rfl ?_
      refine z_icmp_ne F (tgt := 22) dX6_falls_15 (by decide) (fun c_15 => ?_) (fun c_15 => ?_)
      · refine z_iconstB F false dX6_falls_22 rfl ?_
        refine z_iconst F (nI 1) dX6_falls_23 rfl ?_
        refine z_callV F (c_right _ _ _ _ false 1 f0 (by omega) (by omega)) 2 rfl (lw_V q1736 q1738 qs43 q117 q1739) (by decide +kernel) ⟨Nat.le_of_ble_eq_true rfl, Nat.le_of_ble_eq_true rfl⟩ ⟨by omega, by omega⟩ [0, 1] 2 ⟨rfl, rfl, rfl, ⟨Or.inl rfl, Or.inr rfl, trivial⟩⟩ (fun h => nomatch h) (Nat.le_of_ble_eq_true rfl) ⟨⟨Or.inr trivial, Or.inl rfl, trivial⟩, rfl, rfl, rfl, Nat.le_of_ble_eq_true rfl⟩ rfl zC6 (zat_G0 rfl) rfl dX6_falls_24 (fun r_24 w_24 hp => ?_) (fun _ _ h => h.elim)
        obtain ⟨rfl, rfl⟩ := hp
        refine z_weq (w' := [zH, zG _ _ _ _]) rfl ?_
        refine z_seq (S' := zi _ :: _) rfl ?_
        refine z_if_eqB F (tgt := 44) dX6_falls_27 (by decide) (fun c_27 => ?_) (fun c_27 => ?_)
        · refine z_iconst F (nI 0) dX6_falls_44 rfl ?_
          exact z_iret F E rfl dX6_falls_45 (by omega) (by omega) (⟨rfl, _, A1, rfl, rfl, frm_upd f1 (by decide), f2⟩)
        · cases c_27
      · exact absurd c_15 hk.2
theorem c_mfalls_badM (F0 : Nat → Int32) (G : Nat → Int64) (A : Nat → Nat → Int32) (B : Nat → Nat → Int64) (s n d kind : Nat) (many : Int32) (f : Nat → Int32) (hs8 : s < 8) (h : nok n d f) (hs : Slt A s n (nI d) f) (hk : kind < 2) (hx : inB many (nI 0) (nI 2) = false) :
    zCtr yX6_falls cX6_falls 9 (some .int) 4 0 0 [zr 1 0, zi (nI s), zi (nI kind), zi many] [zH, zG F0 G A B] (fun r w => r = some (zi (nI 0)) ∧ ∃ F' A', w = [zH, zG F' G A' B] ∧ F' 0 = nI 2 ∧ frm [0, 4, 5] F0 F' ∧ frm [6] A A') zNx := by
  refine z_start (by decide) [some (zr 1 0), some (zi (nI s)), some (zi (nI kind)), some (zi many), none, none, none, none, none] rfl (fun _ => Nat.le_of_ble_eq_true rfl) (fun _ => rfl) (fun X F E hno hin => ?_)
  have hn1 := h.n1
  have hn := h.n24
  refine z_aload_n F dX6_falls_0 rfl ?_
  refine z_iload_n F dX6_falls_1 rfl ?_
  refine z_callV F (c_lays_ok _ _ _ _ s n (nI d) f hs8 (by omega) hn hs) 1 rfl (lw_V q1732 q1734 qs42 q117 q1735) (by decide +kernel) ⟨Nat.le_of_ble_eq_true rfl, Nat.le_of_ble_eq_true rfl⟩ ⟨by omega, by omega⟩ [0, 1] 2 ⟨rfl, rfl, rfl, ⟨Or.inl rfl, Or.inr rfl, trivial⟩⟩ (fun h => nomatch h) (Nat.le_of_ble_eq_true rfl) ⟨⟨Or.inr trivial, Or.inl rfl, trivial⟩, rfl, rfl, rfl, Nat.le_of_ble_eq_true rfl⟩ rfl zC6 (zat_G0 rfl) rfl dX6_falls_2 (fun r_2 w_2 hp => ?_) (fun _ _ h => h.elim)
  obtain ⟨rfl, F1, A1, rfl, f0, f1, f2, f3⟩ := hp
  refine z_weq (w' := [zH, zG _ _ _ _]) rfl ?_
  refine z_seq (S' := zi _ :: _) rfl ?_
  refine z_if_eqB F (tgt := 44) dX6_falls_5 (by decide) (fun c_5 => ?_) (fun c_5 => ?_)
  · cases c_5
  · refine z_aload_n F dX6_falls_8 rfl ?_
    refine z_iload_n F dX6_falls_9 rfl ?_
    refine z_if_eqN F (by omega) (tgt := 18) dX6_falls_10 (by decide) (fun c_10 => ?_) (fun c_10 => ?_)
    · refine z_iconstB F true dX6_falls_18 rfl ?_
      refine z_goto F (tgt := 23) dX6_falls_19 (by decide) ?_
      refine z_iconst F (nI 1) dX6_falls_23 rfl ?_
      refine z_callV F (c_right _ _ _ _ true 1 f0 (by omega) (by omega)) 2 rfl (lw_V q1736 q1738 qs43 q117 q1739) (by decide +kernel) ⟨Nat.le_of_ble_eq_true rfl, Nat.le_of_ble_eq_true rfl⟩ ⟨by omega, by omega⟩ [0, 1] 2 ⟨rfl, rfl, rfl, ⟨Or.inl rfl, Or.inr rfl, trivial⟩⟩ (fun h => nomatch h) (Nat.le_of_ble_eq_true rfl) ⟨⟨Or.inr trivial, Or.inl rfl, trivial⟩, rfl, rfl, rfl, Nat.le_of_ble_eq_true rfl⟩ rfl zC6 (zat_G0 rfl) rfl dX6_falls_24 (fun r_24 w_24 hp => ?_) (fun _ _ h => h.elim)
      obtain ⟨rfl, rfl⟩ := hp
      refine z_weq (w' := [zH, zG _ _ _ _]) rfl ?_
      refine z_seq (S' := zi _ :: _) rfl ?_
      refine z_if_eqB F (tgt := 44) dX6_falls_27 (by decide) (fun c_27 => ?_) (fun c_27 => ?_)
      · cases c_27
      · refine z_aload_n F dX6_falls_30 rfl ?_
        refine z_iload_n F dX6_falls_31 rfl ?_
        refine z_iconst F (nI 0) dX6_falls_32 rfl ?_
        refine z_iconst F (nI 2) dX6_falls_33 rfl ?_
        refine z_callS F (c_within many (nI 0) (nI 2)) 3 rfl (lw_S q1717 q1718 q117 q1719) (by decide +kernel) ⟨Nat.le_of_ble_eq_true rfl, Nat.le_of_ble_eq_true rfl⟩ ⟨by omega, by omega⟩ [0] 2 ⟨rfl, rfl, rfl, ⟨Or.inl rfl, trivial⟩⟩ (fun h => nomatch h) (Nat.le_of_ble_eq_true rfl) ⟨⟨Or.inr trivial, Or.inr trivial, trivial⟩, rfl, rfl, rfl, Nat.le_of_ble_eq_true rfl⟩ rfl rfl dX6_falls_34 (fun r_34 w_34 hp => ?_) (fun _ _ h => h.elim)
        obtain ⟨rfl, rfl⟩ := hp
        refine z_weq (w' := [zH, zG _ _ _ _]) rfl ?_
        refine z_seq (S' := zi _ :: _) rfl ?_
        rw [hx]
        refine z_iconst F (nI 2) dX6_falls_37 rfl ?_
        refine z_callV F (c_right _ _ _ _ false 2 f0 (by omega) (by omega)) 2 rfl (lw_V q1736 q1738 qs43 q117 q1739) (by decide +kernel) ⟨Nat.le_of_ble_eq_true rfl, Nat.le_of_ble_eq_true rfl⟩ ⟨by omega, by omega⟩ [0, 1] 2 ⟨rfl, rfl, rfl, ⟨Or.inl rfl, Or.inr rfl, trivial⟩⟩ (fun h => nomatch h) (Nat.le_of_ble_eq_true rfl) ⟨⟨Or.inr trivial, Or.inl rfl, trivial⟩, rfl, rfl, rfl, Nat.le_of_ble_eq_true rfl⟩ rfl zC6 (zat_G0 rfl) rfl dX6_falls_38 (fun r_38 w_38 hp => ?_) (fun _ _ h => h.elim)
        obtain ⟨rfl, rfl⟩ := hp
        refine z_weq (w' := [zH, zG _ _ _ _]) rfl ?_
        refine z_seq (S' := zi _ :: _) rfl ?_
        refine z_if_neB F (tgt := 46) dX6_falls_41 (by decide) (fun c_41 => ?_) (fun c_41 => ?_)
        · cases c_41
        · refine z_iconst F (nI 0) dX6_falls_44 rfl ?_
          exact z_iret F E rfl dX6_falls_45 (by omega) (by omega) (⟨rfl, _, A1, rfl, rfl, frm_upd f1 (by decide), f2⟩)
    · refine z_iload_n F dX6_falls_13 rfl ?_
      refine z_iconst F (nI 1) dX6_falls_14 rfl ?_
      refine z_icmp_neN F (by omega) (by omega) (tgt := 22) dX6_falls_15 (by decide) (fun c_15 => ?_) (fun c_15 => ?_)
      · exact absurd c_15 (by omega)
      · refine z_iconstB F true dX6_falls_18 rfl ?_
        refine z_goto F (tgt := 23) dX6_falls_19 (by decide) ?_
        refine z_iconst F (nI 1) dX6_falls_23 rfl ?_
        refine z_callV F (c_right _ _ _ _ true 1 f0 (by omega) (by omega)) 2 rfl (lw_V q1736 q1738 qs43 q117 q1739) (by decide +kernel) ⟨Nat.le_of_ble_eq_true rfl, Nat.le_of_ble_eq_true rfl⟩ ⟨by omega, by omega⟩ [0, 1] 2 ⟨rfl, rfl, rfl, ⟨Or.inl rfl, Or.inr rfl, trivial⟩⟩ (fun h => nomatch h) (Nat.le_of_ble_eq_true rfl) ⟨⟨Or.inr trivial, Or.inl rfl, trivial⟩, rfl, rfl, rfl, Nat.le_of_ble_eq_true rfl⟩ rfl zC6 (zat_G0 rfl) rfl dX6_falls_24 (fun r_24 w_24 hp => ?_) (fun _ _ h => h.elim)
        obtain ⟨rfl, rfl⟩ := hp
        refine z_weq (w' := [zH, zG _ _ _ _]) rfl ?_
        refine z_seq (S' := zi _ :: _) rfl ?_
        refine z_if_eqB F (tgt := 44) dX6_falls_27 (by decide) (fun c_27 => ?_) (fun c_27 => ?_)
        · cases c_27
        · refine z_aload_n F dX6_falls_30 rfl ?_
          refine z_iload_n F dX6_falls_31 rfl ?_
          refine z_iconst F (nI 0) dX6_falls_32 rfl ?_
          refine z_iconst F (nI 2) dX6_falls_33 rfl ?_
          refine z_callS F (c_within many (nI 0) (nI 2)) 3 rfl (lw_S q1717 q1718 q117 q1719) (by decide +kernel) ⟨Nat.le_of_ble_eq_true rfl, Nat.le_of_ble_eq_true rfl⟩ ⟨by omega, by omega⟩ [0] 2 ⟨rfl, rfl, rfl, ⟨Or.inl rfl, trivial⟩⟩ (fun h => nomatch h) (Nat.le_of_ble_eq_true rfl) ⟨⟨Or.inr trivial, Or.inr trivial, trivial⟩, rfl, rfl, rfl, Nat.le_of_ble_eq_true rfl⟩ rfl rfl dX6_falls_34 (fun r_34 w_34 hp => ?_) (fun _ _ h => h.elim)
          obtain ⟨rfl, rfl⟩ := hp
          refine z_weq (w' := [zH, zG _ _ _ _]) rfl ?_
          refine z_seq (S' := zi _ :: _) rfl ?_
          rw [hx]
          refine z_iconst F (nI 2) dX6_falls_37 rfl ?_
          refine z_callV F (c_right _ _ _ _ false 2 f0 (by omega) (by omega)) 2 rfl (lw_V q1736 q1738 qs43 q117 q1739) (by decide +kernel) ⟨Nat.le_of_ble_eq_true rfl, Nat.le_of_ble_eq_true rfl⟩ ⟨by omega, by omega⟩ [0, 1] 2 ⟨rfl, rfl, rfl, ⟨Or.inl rfl, Or.inr rfl, trivial⟩⟩ (fun h => nomatch h) (Nat.le_of_ble_eq_true rfl) ⟨⟨Or.inr trivial, Or.inl rfl, trivial⟩, rfl, rfl, rfl, Nat.le_of_ble_eq_true rfl⟩ rfl zC6 (zat_G0 rfl) rfl dX6_falls_38 (fun r_38 w_38 hp => ?_) (fun _ _ h => h.elim)
          obtain ⟨rfl, rfl⟩ := hp
          refine z_weq (w' := [zH, zG _ _ _ _]) rfl ?_
          refine z_seq (S' := zi _ :: _) rfl ?_
          refine z_if_neB F (tgt := 46) dX6_falls_41 (by decide) (fun c_41 => ?_) (fun c_41 => ?_)
          · cases c_41
          · refine z_iconst F (nI 0) dX6_falls_44 rfl ?_
            exact z_iret F E rfl dX6_falls_45 (by omega) (by omega) (⟨rfl, _, A1, rfl, rfl, frm_upd f1 (by decide), f2⟩)
theorem c_mfallen_ok (F0 : Nat → Int32) (G : Nat → Int64) (A : Nat → Nat → Int32) (B : Nat → Nat → Int64) (i m : Nat) (hm : m < 3) (h58 : F0 58 = nI m) (hi : i < m) :
    zCtr yX6_fallen cX6_fallen 2 (some .int) 1 0 0 [zr 1 0, zi (nI i)] [zH, zG F0 G A B] (fun r w => r = some (zi (A 59 i)) ∧ w = [zH, zG (upd F0 0 (nI 0)) G A B]) zNx := by
  refine z_start (by decide) [some (zr 1 0), some (zi (nI i))] rfl (fun _ => Nat.le_of_ble_eq_true rfl) (fun _ => rfl) (fun X F E hno hin => ?_)
  have e58 : upd F0 0 (nI 0) 58 = nI m := by rw [upd_at, if_neg (by decide)]; exact h58
  refine z_aload_n F dX6_fallen_0 rfl ?_
  refine z_iconst F (nI 0) dX6_fallen_1 rfl ?_
  refine z_pmi F rfl 0 rfl (Nat.le_of_ble_eq_true rfl) rfl q1480 rfl rfl rfl dX6_fallen_2 ?_
  refine z_weq (w' := [_, _]) rfl ?_
  refine z_aload_n F dX6_fallen_5 rfl ?_
  refine z_iload_n F dX6_fallen_6 rfl ?_
  refine z_if_ltN F (by omega) (tgt := 22) dX6_fallen_7 (by decide) (fun c_7 => ?_) (fun c_7 => ?_)
  · exact absurd c_7 (by omega)
  · refine z_iload_n F dX6_fallen_10 rfl ?_
    refine z_aload_n F dX6_fallen_11 rfl ?_
    refine z_mi F rfl 58 rfl (Nat.le_of_ble_eq_true rfl) rfl q1538 dX6_fallen_12 ?_
    refine z_ieq (e58) ?_
    refine z_icmp_geN F (by omega) (by omega) (tgt := 22) dX6_fallen_15 (by decide) (fun c_15 => ?_) (fun c_15 => ?_)
    · exact absurd c_15 (by omega)
    · refine z_iconstB F true dX6_fallen_18 rfl ?_
      refine z_goto F (tgt := 23) dX6_fallen_19 (by decide) ?_
      refine z_iconst F (nI 1) dX6_fallen_23 rfl ?_
      refine z_callV F (c_right _ _ _ _ true 1 rfl (by omega) (by omega)) 2 rfl (lw_V q1736 q1738 qs43 q117 q1739) (by decide +kernel) ⟨Nat.le_of_ble_eq_true rfl, Nat.le_of_ble_eq_true rfl⟩ ⟨by omega, by omega⟩ [0, 1] 2 ⟨rfl, rfl, rfl, ⟨Or.inl rfl, Or.inr rfl, trivial⟩⟩ (fun h => nomatch h) (Nat.le_of_ble_eq_true rfl) ⟨⟨Or.inr trivial, Or.inl rfl, trivial⟩, rfl, rfl, rfl, Nat.le_of_ble_eq_true rfl⟩ rfl zC6 (zat_G0 rfl) rfl dX6_fallen_24 (fun r_24 w_24 hp => ?_) (fun _ _ h => h.elim)
      obtain ⟨rfl, rfl⟩ := hp
      refine z_weq (w' := [zH, zG _ _ _ _]) rfl ?_
      refine z_seq (S' := zi _ :: _) rfl ?_
      refine z_if_eqB F (tgt := 39) dX6_fallen_27 (by decide) (fun c_27 => ?_) (fun c_27 => ?_)
      · cases c_27
      · refine z_aload_n F dX6_fallen_30 rfl ?_
        refine z_ma F rfl 59 rfl (Nat.le_of_ble_eq_true rfl) rfl q1539 dX6_fallen_31 ?_
        refine z_iload_n F dX6_fallen_34 rfl ?_
        refine z_ialdGN F rfl rfl (Nat.le_of_ble_eq_true rfl) (by omega) rfl dX6_fallen_35 ?_
        refine z_goto F (tgt := 40) dX6_fallen_36 (by decide) ?_
        exact z_iret F E rfl dX6_fallen_40 (by omega) (by omega) (⟨rfl, rfl⟩)
theorem c_mfallen_bad (F0 : Nat → Int32) (G : Nat → Int64) (A : Nat → Nat → Int32) (B : Nat → Nat → Int64) (x : Int32) (m : Nat) (hm : m < 3) (h58 : F0 58 = nI m) (hx : ∀ i, i < m → ¬ x = nI i) :
    zCtr yX6_fallen cX6_fallen 2 (some .int) 1 0 0 [zr 1 0, zi x] [zH, zG F0 G A B] (fun r w => r = some (zi (nI 0)) ∧ w = [zH, zG (upd F0 0 (nI 1)) G A B]) zNx := by
  refine z_start (by decide) [some (zr 1 0), some (zi x)] rfl (fun _ => Nat.le_of_ble_eq_true rfl) (fun _ => rfl) (fun X F E hno hin => ?_)
  have e58 : upd F0 0 (nI 0) 58 = nI m := by rw [upd_at, if_neg (by decide)]; exact h58
  refine z_aload_n F dX6_fallen_0 rfl ?_
  refine z_iconst F (nI 0) dX6_fallen_1 rfl ?_
  refine z_pmi F rfl 0 rfl (Nat.le_of_ble_eq_true rfl) rfl q1480 rfl rfl rfl dX6_fallen_2 ?_
  refine z_weq (w' := [_, _]) rfl ?_
  refine z_aload_n F dX6_fallen_5 rfl ?_
  refine z_iload_n F dX6_fallen_6 rfl ?_
  refine z_if_lt F (tgt := 22) dX6_fallen_7 (by decide) (fun c_7 => ?_) (fun c_7 => ?_)
  · refine z_iconstB F false dX6_fallen_22 rfl ?_
    refine z_iconst F (nI 1) dX6_fallen_23 rfl ?_
    refine z_callV F (c_right _ _ _ _ false 1 rfl (by omega) (by omega)) 2 rfl (lw_V q1736 q1738 qs43 q117 q1739) (by decide +kernel) ⟨Nat.le_of_ble_eq_true rfl, Nat.le_of_ble_eq_true rfl⟩ ⟨by omega, by omega⟩ [0, 1] 2 ⟨rfl, rfl, rfl, ⟨Or.inl rfl, Or.inr rfl, trivial⟩⟩ (fun h => nomatch h) (Nat.le_of_ble_eq_true rfl) ⟨⟨Or.inr trivial, Or.inl rfl, trivial⟩, rfl, rfl, rfl, Nat.le_of_ble_eq_true rfl⟩ rfl zC6 (zat_G0 rfl) rfl dX6_fallen_24 (fun r_24 w_24 hp => ?_) (fun _ _ h => h.elim)
    obtain ⟨rfl, rfl⟩ := hp
    refine z_weq (w' := [zH, zG _ _ _ _]) rfl ?_
    refine z_seq (S' := zi _ :: _) rfl ?_
    refine z_if_eqB F (tgt := 39) dX6_fallen_27 (by decide) (fun c_27 => ?_) (fun c_27 => ?_)
    · refine z_iconst F (nI 0) dX6_fallen_39 rfl ?_
      exact z_iret F E rfl dX6_fallen_40 (by omega) (by omega) (⟨rfl, by rw [upd_upd]⟩)
    · cases c_27
  · refine z_iload_n F dX6_fallen_10 rfl ?_
    refine z_aload_n F dX6_fallen_11 rfl ?_
    refine z_mi F rfl 58 rfl (Nat.le_of_ble_eq_true rfl) rfl q1538 dX6_fallen_12 ?_
    refine z_ieq (e58) ?_
    refine z_icmp_ge F (tgt := 22) dX6_fallen_15 (by decide) (fun c_15 => ?_) (fun c_15 => ?_)
    · refine z_iconstB F false dX6_fallen_22 rfl ?_
      refine z_iconst F (nI 1) dX6_fallen_23 rfl ?_
      refine z_callV F (c_right _ _ _ _ false 1 rfl (by omega) (by omega)) 2 rfl (lw_V q1736 q1738 qs43 q117 q1739) (by decide +kernel) ⟨Nat.le_of_ble_eq_true rfl, Nat.le_of_ble_eq_true rfl⟩ ⟨by omega, by omega⟩ [0, 1] 2 ⟨rfl, rfl, rfl, ⟨Or.inl rfl, Or.inr rfl, trivial⟩⟩ (fun h => nomatch h) (Nat.le_of_ble_eq_true rfl) ⟨⟨Or.inr trivial, Or.inl rfl, trivial⟩, rfl, rfl, rfl, Nat.le_of_ble_eq_true rfl⟩ rfl zC6 (zat_G0 rfl) rfl dX6_fallen_24 (fun r_24 w_24 hp => ?_) (fun _ _ h => h.elim)
      obtain ⟨rfl, rfl⟩ := hp
      refine z_weq (w' := [zH, zG _ _ _ _]) rfl ?_
      refine z_seq (S' := zi _ :: _) rfl ?_
      refine z_if_eqB F (tgt := 39) dX6_fallen_27 (by decide) (fun c_27 => ?_) (fun c_27 => ?_)
      · refine z_iconst F (nI 0) dX6_fallen_39 rfl ?_
        exact z_iret F E rfl dX6_fallen_40 (by omega) (by omega) (⟨rfl, by rw [upd_upd]⟩)
      · cases c_27
    · exact fl_out c_7 c_15 hx
end C9yn
end
section
/-! raw references: constants at known addresses; contracts that tell them; calls by an interface -/
section C9yo
abbrev zq (a : Nat) : zV := Sum.inl (Value.ref a)
theorem lw_F {own : String} {idx : Nat} {C : String} {x y : MethodName} {b : ByteArray} {L : Nat} {r : Option FieldType} (h1 : Cond.methodLink own idx x ∈ lw_all) (h2 : Cond.instanceMethod y ∈ lw_all) (h3 : Cond.selects C x y ∈ lw_all) (h4 : Cond.initialized y.cls ∈ lw_all) (h5 : Cond.code y b L r ∈ lw_all) : GoodIn lw_all (va_wsF own idx C x y (ws_ y b L r)) := by
  refine lw_app ?_ (lw_meth h5)
  intro w hw
  simp only [List.mem_cons, List.not_mem_nil, or_false] at hw
  rcases hw with e | e | e | e
  · rw [e]; exact h1
  · rw [e]; exact h3
  · rw [e]; exact h2
  · rw [e]; exact h4
/-- a contract that tells D's constants -/
def zCtrD (D : va_G) (y : MethodName) (cc : ByteArray) (nL : Nat) (ret : Option FieldType) (d mc ms : Nat) (av : List zV) (w0 : List zE) (post : Option zV → List zE → Prop) (xpost : String → List zE → Prop) : Prop :=
  ∀ (l : Launch) (cA : Nat → ClassId) (ad0 : Nat → Nat → Nat) (sz : Nat), vx_Met l y (ws_ y cc nL ret) (zRm d mc ms) (va_Pc (av.map (zcv ad0)) (zPc D cA ad0 w0 sz l)) (zQc D cA ad0 w0 sz post) (zXC D cA ad0 w0 sz xpost) mc ms (zfr ad0 w0 sz)
theorem zCtr.atD {y : MethodName} {cc : ByteArray} {nL : Nat} {ret : Option FieldType} {d mc ms : Nat} {av : List zV} {w0 : List zE} {post : Option zV → List zE → Prop} {xpost : String → List zE → Prop} (h : zCtr y cc nL ret d mc ms av w0 post xpost) (D : va_G) : zCtrD D y cc nL ret d mc ms av w0 post xpost := fun l cA ad0 sz => h l D cA ad0 sz
theorem z_startD {D : va_G} {y : MethodName} {cc : ByteArray} {nL : Nat} {ret : Option FieldType} {d mc ms : Nat} {av : List zV} {w0 : List zE} {post : Option zV → List zE → Prop} {xpost : String → List zE → Prop} (hy : plainName y.cls = true) (L0 : List (Option zV)) (hL0 : L0.length = nL) (hsl : ∀ ad, (lg_sl (av.map (zcv ad))).length ≤ nL) (hL : ∀ ad, zal ad L0 = lv_args 0 (av.map (zcv ad)))
    (body : ∀ X : zX, X.2.2.1 = D → zFix X cc y.cls ret nL d mc ms w0.length (zisP w0) → zEnd X post xpost mc ms → zNoH X → X.1.2.2.2.2.2.2.2.2.1.name = y.name → Z X L0 [] w0 0 0 0) : zCtrD D y cc nL ret d mc ms av w0 post xpost := by
  intro l cA ad0 sz
  refine vx_ofW (cc := cc) (maxL := nL) (ret := ret) hy rfl ?_
  intro p e s m args below meth c s₁ B hml ht hv
  obtain ⟨rfl, hsz, hR, hI, hK, hG⟩ := hv
  subst hsz
  have hts := atoms_spec (ws := ws_ y cc nL ret) B.pre
  have hts : ∀ w ∈ lw_all, w.before _ s = true := fun w h => hts w (List.mem_cons_of_mem _ h)
  have hl := lv_entry (av.map (zcv ad0)) (hsl ad0)
  have hb := body ((p, l, e, (headSpec (ws_ y cc nL ret) (zRm d mc ms)).room, s, m, (av.map (zcv ad0)).toArray, below, meth, c), vx_MQ below (zQc D cA ad0 w0 s.heap.size post) (zXC D cA ad0 w0 s.heap.size xpost) (av.map (zcv ad0)).toArray s mc ms (zfr ad0 w0 s.heap.size), D, cA, zfr ad0 w0 s.heap.size, ad0, w0) rfl
    ⟨B.exec, B.bytes, findClass_of_methodNamed B.named, hts, hK, fun q h => Or.inr h, B.notSynchronized, B.returns, hml, rfl, hG, rfl, rfl⟩ ⟨rfl, rfl⟩ ht (name_of_methodNamed B.named B.method).1
    ad0 s.heap [] _ (fun _ _ _ _ => rfl) hR ⟨hI.1, fun p j c h => Or.inl ⟨p, j, c, h, rfl⟩⟩ va_S.rf (by unfold zLh; rw [hL0, hL]; exact hl)
  rw [lg_entry_eq]
  exact hb
section RW1
variable {X : zX} {cc : ByteArray} {own : String} {ret : Option FieldType} {nL d mc ms nw : Nat} {np : Bool} {L : List (Option zV)} {S : List zV} {w : List zE} {k n pc : Nat} {post : Option zV → List zE → Prop} {xpost : String → List zE → Prop}
variable {w0 : List zE} {σ : List Nat} {N : Nat} {y : MethodName} {cc' : ByteArray} {nL' d' mc' ms' idx : Nat} {ret' : Option FieldType} {as st0 : List zV}
theorem z_go5 (F : zFix X cc own ret nL d mc ms nw np) (hz : zcall σ N w w0) (hpl : zisP w0 = true → np = true) (hnw : nw ≤ N) (hkp : zkept σ N w0 w L S) {mc' ms' : Nat} {st0 : List zV} {ad : Nat → Nat → Nat} {H : Heap} {locs : List Loc} {ls : Array Slot} (h0 : zAg X.2.2.2.2.2.2 X.2.2.2.2.2.1 ad) (h1 : zRel X.2.2.1 X.2.2.2.1 ad w H) (h2 : zInj ad w X.2.2.2.2.1) (h3 : va_S X.2.2.2.2.1 X.1.2.2.2.2.1.heap H locs) (h4 : zLh ad ls L) {a : Array Value}
    (hr : vx_Run5 X.1.1 X.1.2.1 X.1.2.2.1 X.1.2.2.2.1 X.1.2.2.2.2.1 X.1.2.2.2.2.2.1 X.1.2.2.2.2.2.2.1 X.1.2.2.2.2.2.2.2.1 X.1.2.2.2.2.2.2.2.2.1 X.1.2.2.2.2.2.2.2.2.2 H locs k n mc' ms' (F0 X.1.2.2.2.2.2.1 pc ls (st0.map (zcv ad))) (S.map (zcv ad)) (zQc X.2.2.1 X.2.2.2.1 (zadc σ N ad) w0 H.size post a) (zXC X.2.2.1 X.2.2.2.1 (zadc σ N ad) w0 H.size xpost) (zfr (zadc σ N ad) w0 H.size))
    (kk : ∀ r w1, post r w1 → Z X L ((r.map (zrn (zsg σ N))).toList ++ S) (zbk σ N w0 w1 0 w) (k + mc') (n + ms') (pc + 5))
    (kx : ∀ E w1, xpost E w1 → ZX X L (zbk σ N w0 w1 0 w) (k + mc') (n + ms') pc E N) : zWj X H locs k n (F0 X.1.2.2.2.2.2.1 pc ls (st0.map (zcv ad))) := by
  have hA : ∀ q, H.size ≤ q → X.2.2.2.2.1 q := fun q hq => F.2.2.2.2.2.1 q (Nat.le_trans h3.1 hq)
  have hfree := hz.free h2 hA
  have agree : ∀ ad1, (∀ p j, p < N → (p = 0 → zisP w0 = false) → zadb σ N ad ad1 p j = ad p j) → zAg X.2.2.2.2.2.2 X.2.2.2.2.2.1 (zadb σ N ad ad1) := fun ad1 hh p j hp hlt => by
    have e1 : X.2.2.2.2.2.2.length = nw := F.2.2.2.2.2.2.2.2.2.2.2.1
    have e2 : zisP X.2.2.2.2.2.2 = np := F.2.2.2.2.2.2.2.2.2.2.2.2
    rw [hh p j (by omega) (fun hp0 => ?_)]
    · exact h0 p j hp hlt
    · have := hp hp0
      rw [e2] at this
      cases hq : zisP w0 with
      | false => rfl
      | true => rw [hpl hq] at this; cases this
  intro T hT Y
  rcases hr T hT Y with ⟨v, st₀, t, T', Lc, g0, Y', hL, e1, e2, ⟨⟨r, w1, ad1, hv, hp, hag, hR1, hI1⟩, hF⟩, st⟩ | ⟨q, st₀, t, T', Lc, E, ce, g0, Y', hL, e1, e2, ⟨⟨w1, ad1, hp, hag, hR1, hI1, hq⟩, hF⟩, hce, hcv, hcl, st⟩
  · obtain ⟨k1, k2, k3⟩ := vx_keep g0 e1 h3 (fun q _ h => hfree q h) hfree hL hF
    rw [← e1] at hR1
    obtain ⟨b1, b2, b3⟩ := hz.back hkp.1 hkp.2.2.2.1 hA h1 h2 hag hR1 hI1 k2
    have hK := kk r w1 hp (zadb σ N ad ad1) T'.heap (locs ++ Lc) ls (agree ad1 b1) b2 b3 k3 (zLh_B b1 hkp.2.1 h4)
    obtain ⟨t2, a1, a2⟩ := hK T' rfl Y'
    refine ⟨t2, ?_, a2⟩
    have e3 : List.map (zcv (zadb σ N ad ad1)) ((r.map (zrn (zsg σ N))).toList ++ S) = v.toList ++ S.map (zcv ad) := by
      cases hv
      have : S.map (zcv (zadb σ N ad ad1)) = S.map (zcv ad) := List.map_congr_left fun x hx => zcv_B b1 (List.all_eq_true.mp hkp.2.2.1 x hx)
      rw [List.map_append, this]
      congr 1
      cases r with
      | none => rfl
      | some x => simp [zcv_rn (zadb_sg hz.2.1 hz.lt)]
    rw [e3] at a1
    exact st t2 a1
  · obtain ⟨k1, k2, k3⟩ := vx_keep g0 e1 h3 (fun q _ h => hfree q h) hfree hL hF
    rw [← e1] at hR1 hce
    obtain ⟨b1, b2, b3⟩ := hz.back hkp.1 hkp.2.2.2.1 hA h1 h2 hag hR1 hI1 k2
    have hl : σ.length = w0.length := zsub_len hz.2.2.2
    have hq' : zadb σ N ad ad1 N 0 = q := by
      have := zadb_sg (ad := ad) (ad1 := ad1) hz.2.1 hz.lt w0.length 0
      rw [show zsg σ N w0.length = N by unfold zsg; rw [if_neg (by omega)]; omega] at this
      rw [this, hq]
    have hK := kx E w1 hp (zadb σ N ad ad1) T'.heap (locs ++ Lc) ls (S.map (zcv ad)) ce (agree ad1 b1) b2 b3 k3 (zLh_B b1 hkp.2.1 h4) (by rw [hq']; exact hce) hcv hcl
    rw [hq'] at hK
    obtain ⟨t2, a1, a2⟩ := hK T' rfl Y'
    exact ⟨t2, st.trans a1, a2⟩
theorem zFix.con (F : zFix X cc own ret nL d mc ms nw np) : zCon X.2.2.1 X.2.2.2.2.1 X.1.2.2.2.2.1 X.1.2.2.2.2.1.heap := F.2.2.2.2.2.2.2.2.2.2.1.2.2.2.2
theorem z_aloadQ_n (F : zFix X cc own ret nL d mc ms nw np) {j : Fin 4} {a : Nat} (hd : decode cc pc = .ok (.aload_n j, 1)) (hl : L[(j : Nat)]? = some (some (zq a))) (kk : Z X L (zq a :: S) w k n (pc + 1)) : Z X L S w k n pc := fun ad H locs ls h0 h1 h2 h3 h4 => lv_aload_n F.1 F.2.1 hd rfl (zLh_at h4 hl) (kk ad H locs ls h0 h1 h2 h3 h4)
theorem z_aloadQ (F : zFix X cc own ret nL d mc ms nw np) {j : Nat} {a : Nat} (hd : decode cc pc = .ok (.aload j, 2)) (hl : L[j]? = some (some (zq a))) (kk : Z X L (zq a :: S) w k n (pc + 2)) : Z X L S w k n pc := fun ad H locs ls h0 h1 h2 h3 h4 => lv_aload F.1 F.2.1 hd (zLh_at h4 hl) (kk ad H locs ls h0 h1 h2 h3 h4)
theorem z_aloadN_n (F : zFix X cc own ret nL d mc ms nw np) {j : Fin 4} (hd : decode cc pc = .ok (.aload_n j, 1)) (hl : L[(j : Nat)]? = some (some zn)) (kk : Z X L (zn :: S) w k n (pc + 1)) : Z X L S w k n pc := fun ad H locs ls h0 h1 h2 h3 h4 => lv_aload_nN F.1 F.2.1 hd rfl (zLh_at h4 hl) (kk ad H locs ls h0 h1 h2 h3 h4)
theorem z_astoreQ_n (F : zFix X cc own ret nL d mc ms nw np) {j : Fin 4} {a : Nat} (hd : decode cc pc = .ok (.astore_n j, 1)) (hj : (j : Nat) < L.length) (kk : Z X (zst L j (zq a)) S w k n (pc + 1)) : Z X L (zq a :: S) w k n pc := fun ad H locs ls h0 h1 h2 h3 h4 => lv_astore_n F.1 F.2.1 hd rfl h4 hj rfl (fun ls1 hl1 => kk ad H locs ls1 h0 h1 h2 h3 (zLh_st (v := zq a) hl1))
theorem z_aretQ (F : zFix X cc own ret nL d mc ms nw np) (E : zEnd X post xpost mc ms) {a : Nat} {rt : FieldType} (hret : ret = some rt) (hrt : (∃ n, rt = .object n) ∨ ∃ t, rt = .array t) (hd : decode cc pc = .ok (.areturn, 1)) (hk : k ≤ mc) (hn : n ≤ ms) (hp : post (some (zq a)) w) : Z X L [zq a] w k n pc := fun ad H locs ls h0 h1 h2 h3 h4 => by
  unfold zWj
  rw [E.1]
  exact vx_ret (W.widen hk hn (W.aret (v := zcv ad (zq a)) F.1 F.2.1 (F.2.2.2.2.2.2.2.1.trans hret) hrt (Or.inr ⟨_, rfl⟩) (fun t ht _ => E.q (r := some (zq a)) h0 h1 h2 h3 hp ht) (fun q hq => by have := h3.2.2 q hq; rwa [E.2] at this) hd F.2.2.2.2.2.2.1))
theorem z_gets (F : zFix X cc own ret nL d mc ms nw np) {C nm ds : String} {v : Value} (hZ : va_Z C nm ds v X.2.2.2.2.1 X.1.2.2.2.2.1 X.1.2.2.2.2.1.heap) (hlink : Cond.fieldLink own idx C nm ds ∈ lw_all) (hd : decode cc pc = .ok (.getstatic idx, 3)) (kk : Z X L (.inl v :: S) w k n (pc + 3)) : Z X L S w k n pc := fun ad H locs ls h0 h1 h2 h3 h4 =>
  va_gets F.1 F.2.1 hZ h3 F.2.2.1 (F.2.2.2.1 _ hlink) (fun _ h => h) hd (kk ad H locs ls h0 h1 h2 h3 h4)
/-- a static of which only 'a reference or null' is known -/
theorem z_getsq (F : zFix X cc own ret nL d mc ms nw np) {C nm ds : String} (hZ : va_Zq C nm ds X.2.2.2.2.1 X.1.2.2.2.2.1 X.1.2.2.2.2.1.heap) (hlink : Cond.fieldLink own idx C nm ds ∈ lw_all) (hd : decode cc pc = .ok (.getstatic idx, 3)) (kk : ∀ v : zV, (v = zn ∨ ∃ a, v = zq a) → Z X L (v :: S) w k n (pc + 3)) : Z X L S w k n pc := by
  rcases hZ with h | ⟨t, h⟩
  · exact z_gets F h hlink hd (kk zn (Or.inl rfl))
  · exact z_gets F h hlink hd (kk (zq t) (Or.inr ⟨t, rfl⟩))
theorem z_getQ (F : zFix X cc own ret nL d mc ms nw np) {o nm ds : String} {a : Nat} {v : Value} (hE : va_OF o nm ds v a X.2.2.2.2.1 X.1.2.2.2.2.1 X.1.2.2.2.2.1.heap) (hlink : Cond.fieldLink own idx o nm ds ∈ lw_all) (hd : decode cc pc = .ok (.getfield idx, 3)) (kk : Z X L (.inl v :: S) w k n (pc + 3)) : Z X L (zq a :: S) w k n pc := fun ad H locs ls h0 h1 h2 h3 h4 =>
  vk_getf F.1 F.2.1 hE h3 F.2.2.1 (F.2.2.2.1 _ hlink) (fun _ h => h) hd (kk ad H locs ls h0 h1 h2 h3 h4)
theorem z_alenQ (F : zFix X cc own ret nL d mc ms nw np) {ty : FieldType} {t M : Nat} {f : Nat → Value} (hT : va_T ty t M f X.2.2.2.2.1 X.1.2.2.2.2.1 X.1.2.2.2.2.1.heap) (hd : decode cc pc = .ok (.arraylength, 1)) (kk : Z X L (zi (nI M) :: S) w k n (pc + 1)) : Z X L (zq t :: S) w k n pc := fun ad H locs ls h0 h1 h2 h3 h4 =>
  va_tlen F.1 F.2.1 hT h3 rfl hd (kk ad H locs ls h0 h1 h2 h3 h4)
theorem z_baldQ (F : zFix X cc own ret nL d mc ms nw np) {t M i : Nat} {f : Nat → Value} {x : Int32} (hT : va_T .byte t M f X.2.2.2.2.1 X.1.2.2.2.2.1 X.1.2.2.2.2.1.heap) (hM : M < 2 ^ 31) (hi : i < M) (hv : f i = .int x) (hd : decode cc pc = .ok (.baload, 1)) (kk : Z X L (zi x :: S) w k n (pc + 1)) : Z X L (zi (nI i) :: zq t :: S) w k n pc := fun ad H locs ls h0 h1 h2 h3 h4 =>
  va_tb F.1 F.2.1 hT h3 (vp_in_nI hi hM) (by rw [zcl_n (by omega)]; exact hv) hd (kk ad H locs ls h0 h1 h2 h3 h4)
theorem z_aaldQ (F : zFix X cc own ret nL d mc ms nw np) {C : String} {t M i a : Nat} {f : Nat → Value} (hT : va_T (.object C) t M f X.2.2.2.2.1 X.1.2.2.2.2.1 X.1.2.2.2.2.1.heap) (hM : M < 2 ^ 31) (hi : i < M) (hv : f i = .ref a) (hd : decode cc pc = .ok (.aaload, 1)) (kk : Z X L (zq a :: S) w k n (pc + 1)) : Z X L (zi (nI i) :: zq t :: S) w k n pc := fun ad H locs ls h0 h1 h2 h3 h4 =>
  vb_tq F.1 F.2.1 hT h3 (vp_in_nI hi hM) (by rw [zcl_n (by omega)]; exact hv) hd (kk ad H locs ls h0 h1 h2 h3 h4)
/-- two references are one: both raw and the same -/
theorem z_acmp_eqQ (F : zFix X cc own ret nL d mc ms nw np) {a : Nat} {off : Int} {tgt : Nat} (hd : decode cc pc = .ok (.if_acmp .eq off, 3)) (ht : (pc : Int) + off = (tgt : Int)) (kk : Z X L S w k n tgt) : Z X L (zq a :: zq a :: S) w k n pc := fun ad H locs ls h0 h1 h2 h3 h4 =>
  lv_acmp_eq (rx := some a) (ry := some a) F.1 F.2.1 hd ht (fun _ => kk ad H locs ls h0 h1 h2 h3 h4) (fun z => absurd rfl z)
theorem z_ldcS (F : zFix X cc own ret nL d mc ms nw np) {tx : String} {a : Nat} (hR : vk_R own idx tx a X.1.2.2.2.2.1) (hd : decode cc pc = .ok (.ldc idx, 2)) (kk : Z X L (zq a :: S) w k n (pc + 2)) : Z X L S w k n pc := fun ad H locs ls h0 h1 h2 h3 h4 =>
  va_ldcS F.1 F.2.1 F.2.2.1 hR hd (kk ad H locs ls h0 h1 h2 h3 h4)
theorem z_recvQ {C : String} {a : Nat} (hO : va_O C a X.2.2.2.2.1 X.1.2.2.2.2.1 X.1.2.2.2.2.1.heap) {H : Heap} {locs : List Loc} (h3 : va_S X.2.2.2.2.1 X.1.2.2.2.2.1.heap H locs) : ∃ cell : Cell, H[a]? = some cell ∧ cell.vm.isStatics = false ∧ X.1.2.2.2.2.1.vm.findClass C = some cell.cls := by
  obtain ⟨cell, a1, a2, a3, -⟩ := hO.kept h3.2.1
  exact ⟨cell, a1, a2, a3⟩
theorem z_castQ (F : zFix X cc own ret nL d mc ms nw np) {C : String} {a : Nat} (hO : va_O C a X.2.2.2.2.1 X.1.2.2.2.2.1 X.1.2.2.2.2.1.heap) (hlink : Cond.classLink own idx C ∈ lw_all) (hd : decode cc pc = .ok (.checkcast idx, 3)) (kk : Z X L (zq a :: S) w k n (pc + 3)) : Z X L (zq a :: S) w k n pc := fun ad H locs ls h0 h1 h2 h3 h4 =>
  va_castE F.1 F.2.1 F.2.2.1 (F.2.2.2.1 _ hlink) (z_recvQ hO h3) hd (kk ad H locs ls h0 h1 h2 h3 h4)
theorem z_dup_x1 (F : zFix X cc own ret nL d mc ms nw np) {u v : zV} (hd : decode cc pc = .ok (.dup_x1, 1)) (hu : zcat u = 1) (hv : zcat v = 1) (kk : Z X L (u :: v :: u :: S) w k n (pc + 1)) : Z X L (u :: v :: S) w k n pc := fun ad H locs ls h0 h1 h2 h3 h4 => lv_dup_x1 F.1 F.2.1 hd ((zcat_cv ad u).trans hu) ((zcat_cv ad v).trans hv) (kk ad H locs ls h0 h1 h2 h3 h4)
theorem z_callVD (F : zFix X cc own ret nL d mc ms nw np) {p0 ci Nf : Nat} {fs : List zV} {T : u_T} {ty0 : Nat → FieldType} (C : zCtrD X.2.2.1 y cc' nL' ret' d' mc' ms' (zr p0 0 :: as) w0 post xpost) (na : Nat) (hna : as.length = na) (hG : GoodIn lw_all (wsV own idx y.cls y (ws_ y cc' nL' ret'))) (hy : y.cls = y.cls ∧ y.cls ≠ "java/lang/invoke/MethodHandle" ∧ y.cls ≠ "java/lang/invoke/VarHandle" ∧ (parseMethodDescriptor y.desc).map (fun d => d.parameters.length) = some na)
    (hrm : d' + 1 ≤ d ∧ nL' ≤ 41) (hks : k + mc' ≤ mc ∧ n + ms' ≤ ms) (σ : List Nat) (N : Nat) (hz : zcall σ N w w0) (hpl : zisP w0 = true → np = true) (hnw : nw ≤ N) (hkp : zkept σ N w0 w L S) (hnL : L.length = nL) (hC : zCl ci y.cls T Nf ty0) (hrc : zat w0 p0 0 = some (.inl (ci, fs))) (hst : st0 = (as.map (zrn (zsg σ N))).reverse ++ zr (zsg σ N p0) 0 :: S) (hd : decode cc pc = .ok (.invokevirtual idx, 3))
    (kk : ∀ r w1, post r w1 → Z X L ((r.map (zrn (zsg σ N))).toList ++ S) (zbk σ N w0 w1 0 w) (k + mc') (n + ms') (pc + 3))
    (kx : ∀ E w1, xpost E w1 → ZX X L (zbk σ N w0 w1 0 w) (k + mc') (n + ms') pc E N) : Z X L st0 w k n pc := fun ad H locs ls h0 h1 h2 h3 h4 => by
  refine z_go F hz hpl hnw hkp h0 h1 h2 h3 h4 (a := (Value.ref (zadc σ N ad p0 0) :: as.map (zcv (zadc σ N ad))).toArray) ?_ kk kx
  have hrel := hz.rel h1
  exact vx_runV (As := as.map (zcv (zadc σ N ad))) ⟨F.1, F.2.1, F.2.2.2.2.2.2.2.2.1, F.2.2.1, F.2.2.2.1⟩ (C X.1.2.1 X.2.2.2.1 (zadc σ N ad) H.size) (cwV na F.2.2.2.1 hG rfl rfl rfl hy ⟨by rw [F.2.2.2.2.2.2.2.2.2.1]; exact hrm.1, by rw [F.2.2.2.2.2.2.2.2.2.1]; show 8 + (nL' + 11) + 60 * d' ≤ 60 * d; omega⟩)
    ⟨zPc_blind, va_recv F.2.2.2.2.1 (zsing (hrel p0 0 _ hrc)) (q0 := 0) hC.1 rfl, fun U hU hW => z_pre F hz h1 h2 h3 (av := zr p0 0 :: as) U hU hW⟩ rfl (by simpa using hna) (h4.1.trans hnL) (by subst hst; show List.map _ _ = _; rw [List.map_append, zstk]; rfl) (lv_room (by rw [zsum]; exact hkp.2.2.2.2)) hd (by rw [F.2.2.2.2.2.2.2.2.2.1]; exact hks)
/-- the receiver is a constant -/
theorem z_callVR (F : zFix X cc own ret nL d mc ms nw np) {a : Nat} (C : zCtrD X.2.2.1 y cc' nL' ret' d' mc' ms' (zq a :: as) w0 post xpost) (na : Nat) (hna : as.length = na) (hG : GoodIn lw_all (wsV own idx y.cls y (ws_ y cc' nL' ret'))) (hy : y.cls = y.cls ∧ y.cls ≠ "java/lang/invoke/MethodHandle" ∧ y.cls ≠ "java/lang/invoke/VarHandle" ∧ (parseMethodDescriptor y.desc).map (fun d => d.parameters.length) = some na)
    (hrm : d' + 1 ≤ d ∧ nL' ≤ 41) (hks : k + mc' ≤ mc ∧ n + ms' ≤ ms) (σ : List Nat) (N : Nat) (hz : zcall σ N w w0) (hpl : zisP w0 = true → np = true) (hnw : nw ≤ N) (hkp : zkept σ N w0 w L S) (hnL : L.length = nL) (hO : va_O y.cls a X.2.2.2.2.1 X.1.2.2.2.2.1 X.1.2.2.2.2.1.heap) (hst : st0 = (as.map (zrn (zsg σ N))).reverse ++ zq a :: S) (hd : decode cc pc = .ok (.invokevirtual idx, 3))
    (kk : ∀ r w1, post r w1 → Z X L ((r.map (zrn (zsg σ N))).toList ++ S) (zbk σ N w0 w1 0 w) (k + mc') (n + ms') (pc + 3))
    (kx : ∀ E w1, xpost E w1 → ZX X L (zbk σ N w0 w1 0 w) (k + mc') (n + ms') pc E N) : Z X L st0 w k n pc := fun ad H locs ls h0 h1 h2 h3 h4 => by
  refine z_go F hz hpl hnw hkp h0 h1 h2 h3 h4 (a := (Value.ref a :: as.map (zcv (zadc σ N ad))).toArray) ?_ kk kx
  exact vx_runV (As := as.map (zcv (zadc σ N ad))) ⟨F.1, F.2.1, F.2.2.2.2.2.2.2.2.1, F.2.2.1, F.2.2.2.1⟩ (C X.1.2.1 X.2.2.2.1 (zadc σ N ad) H.size) (cwV na F.2.2.2.1 hG rfl rfl rfl hy ⟨by rw [F.2.2.2.2.2.2.2.2.2.1]; exact hrm.1, by rw [F.2.2.2.2.2.2.2.2.2.1]; show 8 + (nL' + 11) + 60 * d' ≤ 60 * d; omega⟩)
    ⟨zPc_blind, z_recvQ hO h3, fun U hU hW => z_pre F hz h1 h2 h3 (av := zq a :: as) U hU hW⟩ rfl (by simpa using hna) (h4.1.trans hnL) (by subst hst; show List.map _ _ = _; rw [List.map_append, zstk]; rfl) (lv_room (by rw [zsum]; exact hkp.2.2.2.2)) hd (by rw [F.2.2.2.2.2.2.2.2.2.1]; exact hks)
theorem z_callSD (F : zFix X cc own ret nL d mc ms nw np) (C : zCtrD X.2.2.1 y cc' nL' ret' d' mc' ms' as w0 post xpost) (na : Nat) (hna : as.length = na) (hG : GoodIn lw_all (va_wsS own idx y (ws_ y cc' nL' ret'))) (hy : y.cls ≠ "java/lang/invoke/MethodHandle" ∧ y.cls ≠ "java/lang/invoke/VarHandle" ∧ (parseMethodDescriptor y.desc).map (fun d => d.parameters.length) = some na)
    (hrm : d' + 1 ≤ d ∧ nL' ≤ 41) (hks : k + mc' ≤ mc ∧ n + ms' ≤ ms) (σ : List Nat) (N : Nat) (hz : zcall σ N w w0) (hpl : zisP w0 = true → np = true) (hnw : nw ≤ N) (hkp : zkept σ N w0 w L S) (hnL : L.length = nL) (hst : st0 = (as.map (zrn (zsg σ N))).reverse ++ S) (hd : decode cc pc = .ok (.invokestatic idx, 3))
    (kk : ∀ r w1, post r w1 → Z X L ((r.map (zrn (zsg σ N))).toList ++ S) (zbk σ N w0 w1 0 w) (k + mc') (n + ms') (pc + 3))
    (kx : ∀ E w1, xpost E w1 → ZX X L (zbk σ N w0 w1 0 w) (k + mc') (n + ms') pc E N) : Z X L st0 w k n pc := fun ad H locs ls h0 h1 h2 h3 h4 => by
  refine z_go F hz hpl hnw hkp h0 h1 h2 h3 h4 (a := (as.map (zcv (zadc σ N ad))).toArray) ?_ kk kx
  exact vx_runS (As := as.map (zcv (zadc σ N ad))) ⟨F.1, F.2.1, F.2.2.2.2.2.2.2.2.1, F.2.2.1, F.2.2.2.1⟩ (C X.1.2.1 X.2.2.2.1 (zadc σ N ad) H.size) (va_cwS na F.2.2.2.1 hG rfl rfl rfl hy ⟨by rw [F.2.2.2.2.2.2.2.2.2.1]; exact hrm.1, by rw [F.2.2.2.2.2.2.2.2.2.1]; show 8 + (nL' + 11) + 60 * d' ≤ 60 * d; omega⟩)
    ⟨zPc_blind, fun U hU hW => z_pre F hz h1 h2 h3 U hU hW⟩ rfl (by simpa using hna) (h4.1.trans hnL) (by subst hst; show List.map _ _ = _; rw [List.map_append, zstk]; rfl) (lv_room (by rw [zsum]; exact hkp.2.2.2.2)) hd (by rw [F.2.2.2.2.2.2.2.2.2.1]; exact hks)
theorem z_callID (F : zFix X cc own ret nL d mc ms nw np) {p0 : Nat} (C : zCtrD X.2.2.1 y cc' nL' none d' mc' ms' (zr p0 0 :: as) w0 post xpost) (na : Nat) (hna : as.length = na) (hG : GoodIn lw_all (ws_ y cc' nL' none)) (hini : Cond.initialized y.cls ∈ lw_all) (hlk : Cond.methodLink own idx y ∈ lw_all) (hin : Cond.instanceMethod y ∈ lw_all) (hy1 : y.name = "<init>") (hy : y.cls ≠ "java/lang/invoke/MethodHandle" ∧ y.cls ≠ "java/lang/invoke/VarHandle" ∧ (parseMethodDescriptor y.desc).map (fun d => d.parameters.length) = some na)
    (hrm : d' + 1 ≤ d ∧ nL' ≤ 41) (hks : k + mc' ≤ mc ∧ n + ms' ≤ ms) (σ : List Nat) (N : Nat) (hz : zcall σ N w w0) (hpl : zisP w0 = true → np = true) (hnw : nw ≤ N) (hkp : zkept σ N w0 w L S) (hnL : L.length = nL) (hst : st0 = (as.map (zrn (zsg σ N))).reverse ++ zr (zsg σ N p0) 0 :: S) (hd : decode cc pc = .ok (.invokespecial idx, 3))
    (kk : ∀ r w1, post r w1 → Z X L ((r.map (zrn (zsg σ N))).toList ++ S) (zbk σ N w0 w1 0 w) (k + mc') (n + ms') (pc + 3))
    (kx : ∀ E w1, xpost E w1 → ZX X L (zbk σ N w0 w1 0 w) (k + mc') (n + ms') pc E N) : Z X L st0 w k n pc := fun ad H locs ls h0 h1 h2 h3 h4 => by
  refine z_go F hz hpl hnw hkp h0 h1 h2 h3 h4 (a := (Value.ref (zadc σ N ad p0 0) :: as.map (zcv (zadc σ N ad))).toArray) ?_ kk kx
  exact vx_runI (As := as.map (zcv (zadc σ N ad))) ⟨F.1, F.2.1, F.2.2.2.2.2.2.2.2.1, F.2.2.1, F.2.2.2.1⟩ (C X.1.2.1 X.2.2.2.1 (zadc σ N ad) H.size) (cwI na F.2.2.2.1 hG rfl rfl rfl (F.2.2.2.1 _ hini) (F.2.2.2.1 _ hlk) (F.2.2.2.1 _ hin) hy1 hy ⟨by rw [F.2.2.2.2.2.2.2.2.2.1]; exact hrm.1, by rw [F.2.2.2.2.2.2.2.2.2.1]; show 8 + (nL' + 11) + 60 * d' ≤ 60 * d; omega⟩)
    ⟨zPc_blind, fun U hU hW => z_pre F hz h1 h2 h3 (av := zr p0 0 :: as) U hU hW⟩ rfl (by simpa using hna) (h4.1.trans hnL) (by subst hst; show List.map _ _ = _; rw [List.map_append, zstk]; rfl) (lv_room (by rw [zsum]; exact hkp.2.2.2.2)) hd (by rw [F.2.2.2.2.2.2.2.2.2.1]; exact hks)
/-- a call by the interface List of the ArrayList's own method -/
theorem z_callF (F : zFix X cc own ret nL d mc ms nw np) {p0 count : Nat} {fs : List zV} {x : MethodName} (C : zCtrD X.2.2.1 y cc' nL' ret' d' mc' ms' (zr p0 0 :: as) w0 post xpost) (na : Nat) (hna : as.length = na) (hG : GoodIn lw_all (va_wsF own idx "java/util/ArrayList" x y (ws_ y cc' nL' ret'))) (hF : va_Fw "java/util/ArrayList" x y X.1.2.2.2.2.1) (hy : x.cls ≠ "java/lang/invoke/MethodHandle" ∧ x.cls ≠ "java/lang/invoke/VarHandle" ∧ (parseMethodDescriptor x.desc).map (fun d => d.parameters.length) = some na)
    (hrm : d' + 1 ≤ d ∧ nL' ≤ 41) (hks : k + mc' ≤ mc ∧ n + ms' ≤ ms) (σ : List Nat) (N : Nat) (hz : zcall σ N w w0) (hpl : zisP w0 = true → np = true) (hnw : nw ≤ N) (hkp : zkept σ N w0 w L S) (hnL : L.length = nL) (hrc : zat w0 p0 0 = some (.inl (15, fs))) (hst : st0 = (as.map (zrn (zsg σ N))).reverse ++ zr (zsg σ N p0) 0 :: S) (hd : decode cc pc = .ok (.invokeinterface idx count, 5))
    (kk : ∀ r w1, post r w1 → Z X L ((r.map (zrn (zsg σ N))).toList ++ S) (zbk σ N w0 w1 0 w) (k + mc') (n + ms') (pc + 5))
    (kx : ∀ E w1, xpost E w1 → ZX X L (zbk σ N w0 w1 0 w) (k + mc') (n + ms') pc E N) : Z X L st0 w k n pc := fun ad H locs ls h0 h1 h2 h3 h4 => by
  refine z_go5 F hz hpl hnw hkp h0 h1 h2 h3 h4 (a := (Value.ref (zadc σ N ad p0 0) :: as.map (zcv (zadc σ N ad))).toArray) ?_ kk kx
  have hrel := hz.rel h1
  exact vx_runF (As := as.map (zcv (zadc σ N ad))) (F.2.2.2.2.1.1 15 _ rfl).2 ⟨F.1, F.2.1, F.2.2.2.2.2.2.2.2.1, F.2.2.1, F.2.2.2.1⟩ (C X.1.2.1 X.2.2.2.1 (zadc σ N ad) H.size) (va_cwF na F.2.2.2.1 hG rfl rfl rfl hF hy ⟨by rw [F.2.2.2.2.2.2.2.2.2.1]; exact hrm.1, by rw [F.2.2.2.2.2.2.2.2.2.1]; show 8 + (nL' + 11) + 60 * d' ≤ 60 * d; omega⟩)
    ⟨zPc_blind, va_recv F.2.2.2.2.1 (zsing (hrel p0 0 _ hrc)) (q0 := 0) (ci := 15) rfl rfl, fun U hU hW => z_pre F hz h1 h2 h3 (av := zr p0 0 :: as) U hU hW⟩ rfl (by simpa using hna) (h4.1.trans hnL) (by subst hst; show List.map _ _ = _; rw [List.map_append, zstk]; rfl) (lv_room (by rw [zsum]; exact hkp.2.2.2.2)) hd (by rw [F.2.2.2.2.2.2.2.2.2.1]; exact hks)
/-- a field by another class's name -/
theorem z_getS (F : zFix X cc own ret nL d mc ms nw np) {p ci M f : Nat} {fs : List zV} {C rf : String} {T : u_T} {ty0 : Nat → FieldType} {v : zV} (hC : zCl ci C T M ty0) (hw : w[p]? = some (zO ci fs)) (hf : f < M) (hlink : Cond.fieldLink own idx rf (T f).2.1 (T f).2.2.1 ∈ lw_all) (hsm : Cond.sameField rf (T f).1 (T f).2.1 (T f).2.2.1 ∈ lw_all) (hv : fs[f]? = some v) (hd : decode cc pc = .ok (.getfield idx, 3))
    (kk : Z X L (v :: S) w k n (pc + 3)) : Z X L (zr p 0 :: S) w k n pc := fun ad H locs ls h0 h1 h2 h3 h4 =>
  va_get (v := zcv ad v) (fs := fs.map (zcv ad)) F.1 F.2.1 F.2.2.2.1 hC.2.1 F.2.2.1 F.2.2.2.2.1 (zsing (h1 p 0 (.inl (ci, fs)) (by simp [zat, hw, zcell]))) 0 rfl hC.1 f hf (F.2.2.2.1 _ hlink) (fun x h => u_same (F.2.2.2.1 _ hsm) x h) (by simp [hv]) hd (kk ad H locs ls h0 h1 h2 h3 h4)
theorem z_putS (F : zFix X cc own ret nL d mc ms nw np) {p ci M f : Nat} {fs : List zV} {C rf : String} {T : u_T} {ty0 : Nat → FieldType} {v : zV} (hC : zCl ci C T M ty0) (hw : w[p]? = some (zO ci fs)) (hf : f < M) (hlink : Cond.fieldLink own idx rf (T f).2.1 (T f).2.2.1 ∈ lw_all) (hsm : Cond.sameField rf (T f).1 (T f).2.1 (T f).2.2.1 ∈ lw_all) (hfin : (T f).2.2.2 = false) (hn : ∀ ad, narrow (ty0 f) (zcv ad v) = zcv ad v) (hfit : ∀ ad, fits (ty0 f) (zcv ad v) = true) (hl : f < fs.length) (hd : decode cc pc = .ok (.putfield idx, 3))
    (kk : Z X L S (w.set p (zO ci (fs.set f v))) k n (pc + 3)) : Z X L (v :: zr p 0 :: S) w k n pc := fun ad H locs ls h0 h1 h2 h3 h4 => by
  have hz : zat w p 0 = some (.inl (ci, fs)) := by simp [zat, hw, zcell]
  have hu : zUpd w p 0 (.inl (ci, fs.set f v)) (w.set p (zO ci (fs.set f v))) := zUpd_O hw
  exact vy_put (v := zcv ad v) (fs := fs.map (zcv ad)) F.1 F.2.1 F.2.2.2.1 hC.2.1 ty0 hC.2.2.1 hC.2.2.2 F.2.2.1 F.2.2.2.2.1 (h2.2 p 0 _ hz) h3 (h1 p 0 _ hz) hC.1 f hf (F.2.2.2.1 _ hlink) (fun x h => u_same (F.2.2.2.1 _ hsm) x h) hfin (hC.2.2.1 f hf) (hn ad) (hfit ad) (by simpa using hl) hd
    (fun H1 locs1 e1 e2 e3 => kk ad H1 locs1 ls h0 (hu.rel h2 h1 (by simpa [zcc, List.map_set] using e1) e2) (hu.inj h2) e3 h4)
/-- a constant is put into an array of Objects -/
theorem z_aastQ (F : zFix X cc own ret nL d mc ms nw np) {p M i a : Nat} {f : Nat → zV} {C : String} (hw : w[p]? = some (zAr 8 M f)) (hO : va_O C a X.2.2.2.2.1 X.1.2.2.2.2.1 X.1.2.2.2.2.1.heap) (hca : Cond.castable C "java/lang/Object" ∈ lw_tbl) (hM : M < 2 ^ 31) (hi : i < M) (hd : decode cc pc = .ok (.aastore, 1)) (kk : Z X L S (w.set p (zAr 8 M (zput f i (zq a)))) k n (pc + 1)) : Z X L (zq a :: zi (nI i) :: zr p 0 :: S) w k n pc := fun ad H locs ls h0 h1 h2 h3 h4 => by
  have hz : zat w p 0 = some (.inr (8, M, .inr (.inr f))) := by simp [zat, hw, zcell]
  have ha := h1 p 0 _ hz
  have hK := F.2.2.2.2.1
  have hin : vp_in (nI i) M := vp_in_nI hi hM
  have hlt : (nI i).toNatClampNeg < M := by rw [zcl_n (by omega)]; exact hi
  have hi0 : ¬ nI i < 0 := fun z => hin (Or.inl z)
  obtain ⟨cellV, g1, g3, g2⟩ := z_recvQ hO h3
  obtain ⟨kA, comp, k1, k2, k3, -⟩ := (hK.2 8 _ rfl).2
  obtain ⟨kE, hkE, -⟩ := Vm.findClass_spec k3
  obtain ⟨kC, hkC, -⟩ := Vm.findClass_spec g2
  refine W.aast F.1 F.2.1 ha (fun q h => by cases h) (fun h => by cases h) k1 k2 rfl hkE ⟨hi0, by show _ < (arrV _ _ _).slots.size; rw [arrV_size]; exact hlt⟩ g1 (fun q h => by rw [h] at g3; cases g3) hkC (vb_asgC (F.2.2.2.2.2.2.2.2.2.2.1.2.1 _ (zNest_of hca rfl)) _ _ k3 g2) rfl rfl hd fun H1 e z oq => ?_
  have hu : zUpd w p 0 (.inr (8, M, .inr (.inr (zput f i (zq a))))) (w.set p (zAr 8 M (zput f i (zq a)))) := zUpd_A hw
  refine kk ad H1 _ ls h0 (hu.rel h2 h1 ?_ oq) (hu.inj h2) (h3.put z oq (h2.2 p 0 _ hz)) h4
  show H1[ad p 0]? = some (vp_cell _ _)
  rw [e]
  show some ((arrV (X.2.2.2.1 8) M (fun i => va_rf (zop (zcv ad (f i))))).setSlot (nI i).toNatClampNeg (.ref a)) = some (arrV (X.2.2.2.1 8) M (fun j => va_rf (zop (zcv ad (zput f i (zq a) j)))))
  rw [arrV_store]
  congr 2
  funext j
  rw [zcl_n (by omega)]
  by_cases hj : j = i
  · subst hj
    simp [updV, zput, va_rf, zop, zcv]
  · simp [updV, zput, hj]
theorem z_aastZ (F : zFix X cc own ret nL d mc ms nw np) {p M i : Nat} {f : Nat → zV} (hw : w[p]? = some (zAr 8 M f)) (hM : M < 2 ^ 31) (hi : i < M) (hd : decode cc pc = .ok (.aastore, 1)) (kk : Z X L S (w.set p (zAr 8 M (zput f i zn))) k n (pc + 1)) : Z X L (zn :: zi (nI i) :: zr p 0 :: S) w k n pc := fun ad H locs ls h0 h1 h2 h3 h4 => by
  have hz : zat w p 0 = some (.inr (8, M, .inr (.inr f))) := by simp [zat, hw, zcell]
  have ha := h1 p 0 _ hz
  have hK := F.2.2.2.2.1
  have hin : vp_in (nI i) M := vp_in_nI hi hM
  refine va_WaastN (C := "java/lang/Object") F.1 F.2.1 ha ((hK.2 8 _ rfl).1 M (fun j => va_rf (zop (zcv ad (f j))))) (fun h => by cases h) (by show ¬ (nI i < 0 ∨ (arrV _ _ _).slots.size ≤ _); rw [arrV_size]; exact hin) rfl rfl hd fun H1 e z oq => ?_
  have hu : zUpd w p 0 (.inr (8, M, .inr (.inr (zput f i zn)))) (w.set p (zAr 8 M (zput f i zn))) := zUpd_A hw
  refine kk ad H1 _ ls h0 (hu.rel h2 h1 ?_ oq) (hu.inj h2) (h3.put z oq (h2.2 p 0 _ hz)) h4
  show H1[ad p 0]? = some (vp_cell _ _)
  rw [e]
  show some ((arrV (X.2.2.2.1 8) M (fun i => va_rf (zop (zcv ad (f i))))).setSlot (nI i).toNatClampNeg .null) = some (arrV (X.2.2.2.1 8) M (fun j => va_rf (zop (zcv ad (zput f i zn j)))))
  rw [arrV_store]
  congr 2
  funext j
  rw [zcl_n (by omega)]
  by_cases hj : j = i
  · subst hj
    simp [updV, zput, va_rf, zop, zcv]
  · simp [updV, zput, hj]
/-- an array of references is made -/
theorem z_newq (F : zFix X cc own ret nL d mc ms nw np) {C : String} {t M : Nat} {i : Int32} (N : Nat) (ht : ∀ cA : Nat → ClassId, (zts cA)[t]? = some (cA t, .object C)) (hclink : Cond.classLink own idx C ∈ lw_all) (hover : Cond.arrayOver (.object C) ∈ lw_tbl) (hi : ¬ i < 0) (hM : i.toNatClampNeg = M) (hb : M * 4 ≤ 536870912) (hN : w.length = N) (hnw : nw ≤ N) (hwf : zwf N w) (hL : L.all (zoN N) = true) (hS : S.all (zokN N) = true) (hks : k + 1 ≤ mc ∧ n + M ≤ ms) (hd : decode cc pc = .ok (.anewarray idx, 3))
    (kk : Z X L (zr N 0 :: S) (w ++ [zAr t M (fun _ => zn)]) (k + 1) (n + M) (pc + 3)) : Z X L (zi i :: S) w k n pc := fun ad H locs ls h0 h1 h2 h3 h4 => by
  subst hN
  subst hM
  refine W.anew F.1 F.2.1 F.2.2.1 (F.2.2.2.1 _ hclink) (z_word F hover (by rw [show zNok (.arrayOver (.object C)) = true from rfl, Bool.or_true])) rfl hd rfl hi hb (by rw [F.2.2.2.2.2.2.2.2.2.1]; exact hks.1) (by rw [F.2.2.2.2.2.2.2.2.2.1]; exact hks.2) fun cA kA comp f1 f2 f3 f4 => ?_
  have hcA : cA = X.2.2.2.1 t := by
    obtain ⟨_, _, _, _, _, q⟩ := (F.2.2.2.2.1.2 t _ (ht _)).2
    exact Option.some.inj (f1.symm.trans q)
  subst hcA
  generalize hH1 : H.push ({ cls := X.2.2.2.1 t, slots := Array.replicate i.toNatClampNeg .null, vm := .none } : Cell) = H1
  have z1 : H1.size = H.size + 1 := by rw [← hH1, Array.size_push]
  have e1 : H1[H.size]? = some (arrV (X.2.2.2.1 t) i.toNatClampNeg (fun _ => .null)) := by rw [← hH1, Array.getElem?_push_size, ← arrV_new]
  have o1 : ∀ q : Nat, q < H.size → H1[q]? = H[q]? := fun q hq => by rw [← hH1, Array.getElem?_push, if_neg (Nat.ne_of_lt hq)]
  have he : ∀ j c', zcell w.length (zAr t i.toNatClampNeg (fun _ => zn)) j = some c' → j = 0 ∧ c' = .inr (t, i.toNatClampNeg, .inr (.inr (fun _ => zn))) := fun j c' h => by
    simp only [zcell] at h
    split at h
    · cases h; exact ⟨by assumption, rfl⟩
    · cases h
  have e9 : va_at X.2.2.1 zcl (H.size, zcc X.2.2.2.1 (zad1 ad w.length H.size) (.inr (t, i.toNatClampNeg, .inr (.inr (fun _ => zn))))) H1 := by
    rw [zcc_K]
    show H1[H.size]? = some (vp_cell _ _)
    exact (e1.trans (by rw [← vp_cell_q]; rfl))
  have hh := kk (zad1 ad w.length H.size) H1 locs ls (h0.new (by rw [F.2.2.2.2.2.2.2.2.2.2.2.1]; exact hnw)) (h1.new hwf he e9 o1) (zInj.new h1 h2 he (F.2.2.2.2.2.1 _ h3.1)) ⟨Nat.le_trans h3.1 (by omega), fun x g1 g2 => (o1 x (Nat.lt_of_lt_of_le g1 h3.1)).trans (h3.2.1 x g1 g2), h3.2.2⟩ (by unfold zLh; rw [zal_eq zad1_lo hL]; exact h4)
  rw [List.map_cons, zS_eq zad1_lo hS] at hh
  have hz : zcv (zad1 ad w.length H.size) (zr w.length 0) = .ref H.size := by simp [zcv, zad1]
  rw [hz] at hh
  exact hh
theorem z_aaldR (F : zFix X cc own ret nL d mc ms nw np) {p M i : Nat} {f : Nat → zV} {v : zV} (hw : w[p]? = some (zAr 8 M f)) (hM : M < 2 ^ 31) (hi : i < M) (hv : f i = v) (hr : (∃ q, v = .inr q) ∨ (∃ a, v = .inl (.ref a)) ∨ v = zn) (hd : decode cc pc = .ok (.aaload, 1)) (kk : Z X L (v :: S) w k n (pc + 1)) : Z X L (zi (nI i) :: zr p 0 :: S) w k n pc := by
  subst hv
  refine z_aaldC F (t := 8) (N := M) (f := f) (ty := .object "java/lang/Object") (fun _ => rfl) rfl (by simp [zat, hw, zcell]) (vp_in_nI hi hM) ?_ hd ?_
  · rw [zcl_n (by omega)]; exact hr
  · rw [zcl_n (by omega)]; exact kk
theorem z_i2c (F : zFix X cc own ret nL d mc ms nw np) {x : Int32} (hd : decode cc pc = .ok (.i2c, 1)) (kk : Z X L (zi (x.toUInt32 % 65536).toInt32 :: S) w k n (pc + 1)) : Z X L (zi x :: S) w k n pc := fun ad H locs ls h0 h1 h2 h3 h4 => lv_i2c F.1 F.2.1 hd rfl (kk ad H locs ls h0 h1 h2 h3 h4)
theorem zF0 (F : zFix X cc own ret nL d mc ms nw np) : va_Fw "java/util/ArrayList" ⟨"java/util/List", "clea\x72", "()V"⟩ ⟨"java/util/ArrayList", "clea\x72", "()V"⟩ X.1.2.2.2.2.1 := F.con.2.2.2.2.2.2.2.2.2.2 ("clea\x72", "()V") (by decide)
theorem zF1 (F : zFix X cc own ret nL d mc ms nw np) : va_Fw "java/util/ArrayList" ⟨"java/util/List", "add", "(Ljava/lang/Object;)Z"⟩ ⟨"java/util/ArrayList", "add", "(Ljava/lang/Object;)Z"⟩ X.1.2.2.2.2.1 := F.con.2.2.2.2.2.2.2.2.2.2 ("add", "(Ljava/lang/Object;)Z") (by decide)
theorem zF2 (F : zFix X cc own ret nL d mc ms nw np) : va_Fw "java/util/ArrayList" ⟨"java/util/List", "get", "(I)Ljava/lang/Object;"⟩ ⟨"java/util/ArrayList", "get", "(I)Ljava/lang/Object;"⟩ X.1.2.2.2.2.1 := F.con.2.2.2.2.2.2.2.2.2.2 ("get", "(I)Ljava/lang/Object;") (by decide)
theorem zF3 (F : zFix X cc own ret nL d mc ms nw np) : va_Fw "java/util/ArrayList" ⟨"java/util/List", "size", "()I"⟩ ⟨"java/util/ArrayList", "size", "()I"⟩ X.1.2.2.2.2.1 := F.con.2.2.2.2.2.2.2.2.2.2 ("size", "()I") (by decide)
end RW1
end C9yo
end
section
/-! the JDK's list and boxed ints -/
section C9yp
abbrev eLs (m : Int32) (c : Nat) (v : zV) : zE := zO 15 [zi m, v, zi (nI c)]
abbrev zAv (n : Nat) (g : Nat → Value) : zE := zAr 8 n (fun i => .inl (g i))
theorem zput_av {g : Nat → Value} {i : Nat} {v : Value} : zput (fun i => (.inl (g i) : zV)) i (.inl v) = fun j => .inl (zput g i v j) := by
  funext j
  simp only [zput]
  split <;> rfl
theorem cacheI {i : Nat} (h : i < 128) : nI i + nI 128 = nI (i + 128) := nI_add i 128
theorem vb_cI {i : Nat} (h : i < 128) : vb_c (i + 128) = nI i := by
  unfold vb_c
  rw [show Int32.ofNat (i + 128) = nI i + nI 128 from (nI_add i 128).symm]
  show nI i + nI 128 - 128 = nI i
  exact (by decide +kernel : ∀ i, i < 128 → nI i + nI 128 - 128 = nI i) i h
theorem c_JvalueOf (D : va_G) (i : Nat) (hi : i < 128) : zCtrD D yJ8_valueOf cJ8_valueOf 1 (some (.object "java/lang/Intege\x72")) 1 0 0 [zi (nI i)] [zH] (fun r w => r = some (zq (D.2 1000 (i + 128))) ∧ w = [zH]) zNx := by
  refine z_startD (by decide) [some (zi (nI i))] rfl (fun _ => Nat.le_of_ble_eq_true rfl) (fun _ => rfl) (fun X hD F E hno hin => ?_)
  subst hD
  have h1 : ¬ nI i < -128 := fun z => nI_pos (show i < 2 ^ 31 by omega) (Int32.lt_trans z (by decide))
  refine z_iload_n F dJ8_valueOf_0 rfl ?_
  refine z_bipush F (-128) dJ8_valueOf_1 rfl ?_
  refine z_icmp_lt F (tgt := 23) dJ8_valueOf_3 (by decide) (fun c_3 => ?_) (fun c_3 => ?_)
  · exact absurd c_3 h1
  · refine z_iload_n F dJ8_valueOf_6 rfl ?_
    refine z_gets F (F.con.1) q1091 dJ8_valueOf_7 ?_
    refine z_icmp_gt F (tgt := 23) dJ8_valueOf_10 (by decide) (fun c_10 => ?_) (fun c_10 => ?_)
    · exact absurd c_10 (nI_nlt (show i ≤ 127 by omega) (by decide))
    · refine z_gets F (F.con.2.1) q1093 dJ8_valueOf_13 ?_
      refine z_iload_n F dJ8_valueOf_16 rfl ?_
      refine z_sipush F (nI 128) dJ8_valueOf_17 rfl ?_
      refine z_iaddN F dJ8_valueOf_20 ?_
      refine z_aaldQ F (F.con.2.2.1) (by decide) (by omega) (rfl) dJ8_valueOf_21 ?_
      exact z_aretQ F E rfl (Or.inl ⟨_, rfl⟩) dJ8_valueOf_22 (by omega) (by omega) (⟨rfl, rfl⟩)
theorem c_JintValue (D : va_G) (i : Nat) (hi : i < 128) : zCtrD D yJ8_intValue cJ8_intValue 1 (some .int) 0 0 0 [zq (D.2 1000 (i + 128))] [zH] (fun r w => r = some (zi (nI i)) ∧ w = [zH]) zNx := by
  refine z_startD (by decide) [some (zq (D.2 1000 (i + 128)))] rfl (fun _ => Nat.le_of_ble_eq_true rfl) (fun _ => rfl) (fun X hD F E hno hin => ?_)
  subst hD
  have hv := F.con.2.2.2.1.2 (i + 128) (by omega)
  rw [vb_cI hi] at hv
  refine z_aloadQ_n F dJ8_intValue_0 rfl ?_
  refine z_getQ F (hv) q1104 dJ8_intValue_1 ?_
  exact z_iret F E rfl dJ8_intValue_4 (by omega) (by omega) (⟨rfl, rfl⟩)
theorem c_JpreCheck (i n : Nat) (hi : i < n) (hn : n < 2 ^ 31) : zCtr yJ13_checkIndex cJ13_checkIndex 3 (some .int) 0 0 0 [zi (nI i), zi (nI n), zn] [zH] (fun r w => r = some (zi (nI i)) ∧ w = [zH]) zNx := by
  refine z_start (by decide) [some (zi (nI i)), some (zi (nI n)), some zn] rfl (fun _ => Nat.le_of_ble_eq_true rfl) (fun _ => rfl) (fun X F E hno hin => ?_)
  refine z_iload_n F dJ13_checkIndex_0 rfl ?_
  refine z_if_ltN F (by omega) (tgt := 9) dJ13_checkIndex_1 (by decide) (fun c_1 => ?_) (fun c_1 => ?_)
  · exact absurd c_1 (by omega)
  · refine z_iload_n F dJ13_checkIndex_4 rfl ?_
    refine z_iload_n F dJ13_checkIndex_5 rfl ?_
    refine z_icmp_ltN F (by omega) (by omega) (tgt := 16) dJ13_checkIndex_6 (by decide) (fun c_6 => ?_) (fun c_6 => ?_)
    · refine z_iload_n F dJ13_checkIndex_16 rfl ?_
      exact z_iret F E rfl dJ13_checkIndex_17 (by omega) (by omega) (⟨rfl, rfl⟩)
    · exact absurd c_6 (by omega)
theorem c_JobjCheck (i n : Nat) (hi : i < n) (hn : n < 2 ^ 31) : zCtr yJ17_checkIndex cJ17_checkIndex 2 (some .int) 1 0 0 [zi (nI i), zi (nI n)] [zH] (fun r w => r = some (zi (nI i)) ∧ w = [zH]) zNx := by
  refine z_start (by decide) [some (zi (nI i)), some (zi (nI n))] rfl (fun _ => Nat.le_of_ble_eq_true rfl) (fun _ => rfl) (fun X F E hno hin => ?_)
  refine z_iload_n F dJ17_checkIndex_0 rfl ?_
  refine z_iload_n F dJ17_checkIndex_1 rfl ?_
  refine z_null F dJ17_checkIndex_2 ?_
  refine z_callS F (c_JpreCheck i n hi hn) 3 rfl (lw_S q1201 q657 q129 q658) (by decide +kernel) ⟨Nat.le_of_ble_eq_true rfl, Nat.le_of_ble_eq_true rfl⟩ ⟨by omega, by omega⟩ [0] 1 ⟨rfl, rfl, rfl, ⟨Or.inl rfl, trivial⟩⟩ (fun h => nomatch h) (Nat.le_of_ble_eq_true rfl) ⟨⟨Or.inr trivial, trivial⟩, rfl, rfl, rfl, Nat.le_of_ble_eq_true rfl⟩ rfl rfl dJ17_checkIndex_3 (fun r_3 w_3 hp => ?_) (fun _ _ h => h.elim)
  obtain ⟨rfl, rfl⟩ := hp
  refine z_weq (w' := [zH]) rfl ?_
  refine z_seq (S' := zi _ :: _) rfl ?_
  exact z_iret F E rfl dJ17_checkIndex_6 (by omega) (by omega) (⟨rfl, rfl⟩)
theorem c_Jsize (D : va_G) (m : Int32) (c : Nat) (v : zV) : zCtrD D yJ2_size cJ2_size 1 (some .int) 0 0 0 [zr 1 0] [zH, eLs m c v, zH] (fun r w => r = some (zi (nI c)) ∧ w = [zH, eLs m c v, zH]) zNx := by
  refine z_startD (by decide) [some (zr 1 0)] rfl (fun _ => Nat.le_of_ble_eq_true rfl) (fun _ => rfl) (fun X hD F E hno hin => ?_)
  subst hD
  refine z_aload_n F dJ2_size_0 rfl ?_
  refine z_get F zCL (f := 2) rfl (Nat.le_of_ble_eq_true rfl) q211 rfl dJ2_size_1 ?_
  exact z_iret F E rfl dJ2_size_4 (by omega) (by omega) (⟨rfl, rfl⟩)
theorem c_JelD (D : va_G) (m : Int32) (c i a : Nat) (f : Nat → Value) (hi : i < 10) (hf : f i = .ref a) : zCtrD D yJ2_elementData cJ2_elementData 2 (some (.object "java/lang/Object")) 0 0 0 [zr 1 0, zi (nI i)] [zH, eLs m c (zr 2 0), zAv 10 f] (fun r w => r = some (zq a) ∧ w = [zH, eLs m c (zr 2 0), zAv 10 f]) zNx := by
  refine z_startD (by decide) [some (zr 1 0), some (zi (nI i))] rfl (fun _ => Nat.le_of_ble_eq_true rfl) (fun _ => rfl) (fun X hD F E hno hin => ?_)
  subst hD
  refine z_aload_n F dJ2_elementData_0 rfl ?_
  refine z_get F zCL (f := 1) rfl (Nat.le_of_ble_eq_true rfl) q210 rfl dJ2_elementData_1 ?_
  refine z_iload_n F dJ2_elementData_4 rfl ?_
  refine z_aaldR F rfl (by decide) (by omega) (congrArg Sum.inl hf) (Or.inr (Or.inl ⟨_, rfl⟩)) dJ2_elementData_5 ?_
  exact z_aretQ F E rfl (Or.inl ⟨_, rfl⟩) dJ2_elementData_6 (by omega) (by omega) (⟨rfl, rfl⟩)
theorem c_Jget (D : va_G) (m : Int32) (c i a : Nat) (f : Nat → Value) (hi : i < c) (hc : c ≤ 10) (hf : f i = .ref a) : zCtrD D yJ2_get cJ2_get 2 (some (.object "java/lang/Object")) 2 0 0 [zr 1 0, zi (nI i)] [zH, eLs m c (zr 2 0), zAv 10 f] (fun r w => r = some (zq a) ∧ w = [zH, eLs m c (zr 2 0), zAv 10 f]) zNx := by
  refine z_startD (by decide) [some (zr 1 0), some (zi (nI i))] rfl (fun _ => Nat.le_of_ble_eq_true rfl) (fun _ => rfl) (fun X hD F E hno hin => ?_)
  subst hD
  refine z_iload_n F dJ2_get_0 rfl ?_
  refine z_aload_n F dJ2_get_1 rfl ?_
  refine z_get F zCL (f := 2) rfl (Nat.le_of_ble_eq_true rfl) q211 rfl dJ2_get_2 ?_
  refine z_callS F (c_JobjCheck i c hi (by omega)) 2 rfl (lw_S q1198 q1199 q139 q1200) (by decide +kernel) ⟨Nat.le_of_ble_eq_true rfl, Nat.le_of_ble_eq_true rfl⟩ ⟨by omega, by omega⟩ [0] 3 ⟨rfl, rfl, rfl, ⟨Or.inl rfl, trivial⟩⟩ (fun h => nomatch h) (Nat.le_of_ble_eq_true rfl) ⟨⟨Or.inr trivial, Or.inr rfl, Or.inr (fun _ => rfl), trivial⟩, rfl, rfl, rfl, Nat.le_of_ble_eq_true rfl⟩ rfl rfl dJ2_get_5 (fun r_5 w_5 hp => ?_) (fun _ _ h => h.elim)
  obtain ⟨rfl, rfl⟩ := hp
  refine z_weq (w' := [zH, zO _ [zi _, zr _ _, zi _], zAr _ 10 _]) rfl ?_
  refine z_seq (S' := zi _ :: _) rfl ?_
  refine z_pop F dJ2_get_8 rfl ?_
  refine z_aload_n F dJ2_get_9 rfl ?_
  refine z_iload_n F dJ2_get_10 rfl ?_
  refine z_callVD F (c_JelD _ m c i a f (by omega) hf) 1 rfl (lw_V q1202 q1203 q1204 q114 q1205) (by decide +kernel) ⟨Nat.le_of_ble_eq_true rfl, Nat.le_of_ble_eq_true rfl⟩ ⟨by omega, by omega⟩ [0, 1, 2] 3 ⟨rfl, rfl, rfl, ⟨Or.inl rfl, Or.inr rfl, Or.inr rfl, trivial⟩⟩ (fun h => nomatch h) (Nat.le_of_ble_eq_true rfl) ⟨⟨Or.inr trivial, Or.inl rfl, Or.inl rfl, trivial⟩, rfl, rfl, rfl, Nat.le_of_ble_eq_true rfl⟩ rfl zCL rfl rfl dJ2_get_11 (fun r_11 w_11 hp => ?_) (fun _ _ h => h.elim)
  obtain ⟨rfl, rfl⟩ := hp
  refine z_weq (w' := [zH, zO _ [zi _, zr _ _, zi _], zAr _ 10 _]) rfl ?_
  refine z_seq (S' := zq _ :: _) rfl ?_
  exact z_aretQ F E rfl (Or.inl ⟨_, rfl⟩) dJ2_get_14 (by omega) (by omega) (⟨rfl, rfl⟩)
theorem c_Jgrow2 (D : va_G) (m : Int32) : zCtrD D yJ2_grow_2 cJ2_grow_2 4 (some (.array (.object "java/lang/Object"))) 1 1 10 [zr 1 0, zi (nI 1)] [zH, eLs m 0 (zq (D.2 1001 1))] (fun r w => r = some (zr 2 0) ∧ w = [zH, eLs m 0 (zr 2 0), zAv 10 (fun _ => .null)]) zNx := by
  refine z_startD (by decide) [some (zr 1 0), some (zi (nI 1)), none, none] rfl (fun _ => Nat.le_of_ble_eq_true rfl) (fun _ => rfl) (fun X hD F E hno hin => ?_)
  subst hD
  refine z_aload_n F dJ2_grow_2_0 rfl ?_
  refine z_get F zCL (f := 1) rfl (Nat.le_of_ble_eq_true rfl) q210 rfl dJ2_grow_2_1 ?_
  refine z_alenQ F (F.con.2.2.2.2.2.1) dJ2_grow_2_4 ?_
  refine z_istore_n F dJ2_grow_2_5 (Nat.le_of_ble_eq_true rfl) ?_
  refine z_leq (L' := [_, _, _, _]) rfl ?_
  refine z_iload_n F dJ2_grow_2_6 rfl ?_
  refine z_if_gtN F (by omega) (tgt := 20) dJ2_grow_2_7 (by decide) (fun c_7 => ?_) (fun c_7 => ?_)
  · exact absurd c_7 (by omega)
  · refine z_aload_n F dJ2_grow_2_10 rfl ?_
    refine z_get F zCL (f := 1) rfl (Nat.le_of_ble_eq_true rfl) q210 rfl dJ2_grow_2_11 ?_
    refine z_gets F (F.con.2.2.2.2.1) q208 dJ2_grow_2_14 ?_
    refine z_acmp_eqQ F (tgt := 45) dJ2_grow_2_17 (by decide) ?_
    refine z_aload_n F dJ2_grow_2_45 rfl ?_
    refine z_bipush F (nI 10) dJ2_grow_2_46 rfl ?_
    refine z_iload_n F dJ2_grow_2_48 rfl ?_
    refine z_mmax F q1171 dJ2_grow_2_49 (Nat.le_of_ble_eq_true rfl) rfl (Nat.le_of_ble_eq_true rfl) ⟨by omega, by omega⟩ ?_
    refine z_ieq (mmaxN (by omega) (by omega)) ?_
    refine z_ieq (show nI (max 10 1) = nI 10 from rfl) ?_
    refine z_newq F (M := 10) 2 (t := 8) (fun _ => rfl) q1172 q1165 (nI_pos (by omega)) (zcl_n (by omega)) (by omega) rfl (Nat.le_of_ble_eq_true rfl) ⟨trivial, rfl, trivial⟩ rfl rfl ⟨by omega, by omega⟩ dJ2_grow_2_52 ?_
    refine z_weq (w' := [zH, zO _ [zi _, zq _, zi _], zAr _ 10 _]) rfl ?_
    refine z_dup_x1 F dJ2_grow_2_55 rfl rfl ?_
    refine z_put F zCL (f := 1) rfl (Nat.le_of_ble_eq_true rfl) q210 rfl (fun _ => rfl) (fun _ => rfl) (Nat.le_of_ble_eq_true rfl) dJ2_grow_2_56 ?_
    refine z_weq (w' := [_, zO _ [_, _, _], _]) rfl ?_
    exact z_aret F E rfl (Or.inr ⟨_, rfl⟩) dJ2_grow_2_59 (by omega) (by omega) (⟨rfl, rfl⟩)
theorem c_Jgrow1 (D : va_G) (m : Int32) : zCtrD D yJ2_grow cJ2_grow 1 (some (.array (.object "java/lang/Object"))) 2 1 10 [zr 1 0] [zH, eLs m 0 (zq (D.2 1001 1))] (fun r w => r = some (zr 2 0) ∧ w = [zH, eLs m 0 (zr 2 0), zAv 10 (fun _ => .null)]) zNx := by
  refine z_startD (by decide) [some (zr 1 0)] rfl (fun _ => Nat.le_of_ble_eq_true rfl) (fun _ => rfl) (fun X hD F E hno hin => ?_)
  subst hD
  refine z_aload_n F dJ2_grow_0 rfl ?_
  refine z_aload_n F dJ2_grow_1 rfl ?_
  refine z_get F zCL (f := 2) rfl (Nat.le_of_ble_eq_true rfl) q211 rfl dJ2_grow_2 ?_
  refine z_iconst F (nI 1) dJ2_grow_5 rfl ?_
  refine z_iaddN F dJ2_grow_6 ?_
  refine z_ieq ((rfl : nI (0 + 1) = nI 1)) ?_
  refine z_callVD F (c_Jgrow2 _ m) 1 rfl (lw_V q1125 q1127 qs26 q114 q1128) (by decide +kernel) ⟨Nat.le_of_ble_eq_true rfl, Nat.le_of_ble_eq_true rfl⟩ ⟨by omega, by omega⟩ [0, 1] 2 ⟨rfl, rfl, rfl, ⟨Or.inl rfl, Or.inr rfl, trivial⟩⟩ (fun h => nomatch h) (Nat.le_of_ble_eq_true rfl) ⟨⟨Or.inr trivial, Or.inl rfl, trivial⟩, rfl, rfl, rfl, Nat.le_of_ble_eq_true rfl⟩ rfl zCL rfl rfl dJ2_grow_7 (fun r_7 w_7 hp => ?_) (fun _ _ h => h.elim)
  obtain ⟨rfl, rfl⟩ := hp
  refine z_weq (w' := [zH, zO _ [zi _, zr _ _, zi _], zAr _ 10 _]) rfl ?_
  refine z_seq (S' := zr _ _ :: _) rfl ?_
  exact z_aret F E rfl (Or.inr ⟨_, rfl⟩) dJ2_grow_10 (by omega) (by omega) (⟨rfl, rfl⟩)
theorem c_Jadd0 (D : va_G) (m : Int32) (j : Nat) (hj : j < 256) : zCtrD D yJ2_add_2 cJ2_add_2 4 none 3 1 10 [zr 1 0, zq (D.2 1000 j), zq (D.2 1001 1), zi (nI 0)] [zH, eLs m 0 (zq (D.2 1001 1))] (fun r w => r = none ∧ w = [zH, eLs m 1 (zr 2 0), zAv 10 (zput (fun _ => .null) 0 (.ref (D.2 1000 j)))]) zNx := by
  refine z_startD (by decide) [some (zr 1 0), some (zq (D.2 1000 j)), some (zq (D.2 1001 1)), some (zi (nI 0))] rfl (fun _ => Nat.le_of_ble_eq_true rfl) (fun _ => rfl) (fun X hD F E hno hin => ?_)
  subst hD
  refine z_iload_n F dJ2_add_2_0 rfl ?_
  refine z_aloadQ_n F dJ2_add_2_1 rfl ?_
  refine z_alenQ F (F.con.2.2.2.2.2.1) dJ2_add_2_2 ?_
  refine z_icmp_neN F (by omega) (by omega) (tgt := 11) dJ2_add_2_3 (by decide) (fun c_3 => ?_) (fun c_3 => ?_)
  · exact absurd rfl c_3
  · refine z_aload_n F dJ2_add_2_6 rfl ?_
    refine z_callVD F (c_Jgrow1 _ m) 0 rfl (lw_V q1121 q1123 qs25 q114 q1124) (by decide +kernel) ⟨Nat.le_of_ble_eq_true rfl, Nat.le_of_ble_eq_true rfl⟩ ⟨by omega, by omega⟩ [0, 1] 2 ⟨rfl, rfl, rfl, ⟨Or.inl rfl, Or.inr rfl, trivial⟩⟩ (fun h => nomatch h) (Nat.le_of_ble_eq_true rfl) ⟨⟨Or.inr trivial, Or.inl rfl, trivial⟩, rfl, rfl, rfl, Nat.le_of_ble_eq_true rfl⟩ rfl zCL rfl rfl dJ2_add_2_7 (fun r_7 w_7 hp => ?_) (fun _ _ h => h.elim)
    obtain ⟨rfl, rfl⟩ := hp
    refine z_weq (w' := [zH, zO _ [zi _, zr _ _, zi _], zAr _ 10 _]) rfl ?_
    refine z_seq (S' := zr _ _ :: _) rfl ?_
    refine z_astore_n F dJ2_add_2_10 (Nat.le_of_ble_eq_true rfl) ?_
    refine z_leq (L' := [_, _, _, _]) rfl ?_
    refine z_aload_n F dJ2_add_2_11 rfl ?_
    refine z_iload_n F dJ2_add_2_12 rfl ?_
    refine z_aloadQ_n F dJ2_add_2_13 rfl ?_
    refine z_aastQ F rfl (F.con.2.2.2.1.1 j hj) q2182 (by decide) (by omega) dJ2_add_2_14 ?_
    refine z_weq (w' := [zH, zO _ [zi _, zr _ _, zi _], zAr _ 10 _]) rfl ?_
    refine z_aload_n F dJ2_add_2_15 rfl ?_
    refine z_iload_n F dJ2_add_2_16 rfl ?_
    refine z_iconst F (nI 1) dJ2_add_2_17 rfl ?_
    refine z_iaddN F dJ2_add_2_18 ?_
    refine z_ieq ((rfl : nI (0 + 1) = nI 1)) ?_
    refine z_put F zCL (f := 2) rfl (Nat.le_of_ble_eq_true rfl) q211 rfl (fun _ => rfl) (fun _ => rfl) (Nat.le_of_ble_eq_true rfl) dJ2_add_2_19 ?_
    refine z_weq (w' := [_, zO _ [_, _, _], _]) rfl ?_
    exact z_vret F E rfl dJ2_add_2_22 (by omega) (by omega) (⟨rfl, by rw [zput_av]⟩)
theorem c_Jadd1 (D : va_G) (m : Int32) (c j : Nat) (f : Nat → Value) (hc : c < 10) (hj : j < 256) : zCtrD D yJ2_add_2 cJ2_add_2 4 none 3 1 10 [zr 1 0, zq (D.2 1000 j), zr 2 0, zi (nI c)] [zH, eLs m c (zr 2 0), zAv 10 f] (fun r w => r = none ∧ w = [zH, eLs m (c + 1) (zr 2 0), zAv 10 (zput f c (.ref (D.2 1000 j)))]) zNx := by
  refine z_startD (by decide) [some (zr 1 0), some (zq (D.2 1000 j)), some (zr 2 0), some (zi (nI c))] rfl (fun _ => Nat.le_of_ble_eq_true rfl) (fun _ => rfl) (fun X hD F E hno hin => ?_)
  subst hD
  refine z_iload_n F dJ2_add_2_0 rfl ?_
  refine z_aload_n F dJ2_add_2_1 rfl ?_
  refine z_alenN F (fun _ => rfl) rfl dJ2_add_2_2 ?_
  refine z_icmp_neN F (by omega) (by omega) (tgt := 11) dJ2_add_2_3 (by decide) (fun c_3 => ?_) (fun c_3 => ?_)
  · refine z_aload_n F dJ2_add_2_11 rfl ?_
    refine z_iload_n F dJ2_add_2_12 rfl ?_
    refine z_aloadQ_n F dJ2_add_2_13 rfl ?_
    refine z_aastQ F rfl (F.con.2.2.2.1.1 j hj) q2182 (by decide) (by omega) dJ2_add_2_14 ?_
    refine z_weq (w' := [zH, zO _ [zi _, zr _ _, zi _], zAr _ 10 _]) rfl ?_
    refine z_aload_n F dJ2_add_2_15 rfl ?_
    refine z_iload_n F dJ2_add_2_16 rfl ?_
    refine z_iconst F (nI 1) dJ2_add_2_17 rfl ?_
    refine z_iaddN F dJ2_add_2_18 ?_
    refine z_put F zCL (f := 2) rfl (Nat.le_of_ble_eq_true rfl) q211 rfl (fun _ => rfl) (fun _ => rfl) (Nat.le_of_ble_eq_true rfl) dJ2_add_2_19 ?_
    refine z_weq (w' := [_, zO _ [_, _, _], _]) rfl ?_
    exact z_vret F E rfl dJ2_add_2_22 (by omega) (by omega) (⟨rfl, by rw [zput_av]⟩)
  · exact absurd c_3 (by omega)
theorem c_JaddA (D : va_G) (m : Int32) (j : Nat) (hj : j < 256) : zCtrD D yJ2_add cJ2_add 2 (some .boolean) 4 1 10 [zr 1 0, zq (D.2 1000 j)] [zH, eLs m 0 (zq (D.2 1001 1))] (fun r w => r = some (zi (nI 1)) ∧ w = [zH, eLs (m + nI 1) 1 (zr 2 0), zAv 10 (zput (fun _ => .null) 0 (.ref (D.2 1000 j)))]) zNx := by
  refine z_startD (by decide) [some (zr 1 0), some (zq (D.2 1000 j))] rfl (fun _ => Nat.le_of_ble_eq_true rfl) (fun _ => rfl) (fun X hD F E hno hin => ?_)
  subst hD
  refine z_aload_n F dJ2_add_0 rfl ?_
  refine z_dup F dJ2_add_1 rfl ?_
  refine z_getS F zCL (f := 0) rfl (Nat.le_of_ble_eq_true rfl) q213 q214 rfl dJ2_add_2 ?_
  refine z_iconst F (nI 1) dJ2_add_5 rfl ?_
  refine z_iadd F dJ2_add_6 ?_
  refine z_putS F zCL (f := 0) rfl (Nat.le_of_ble_eq_true rfl) q213 q214 rfl (fun _ => rfl) (fun _ => rfl) (Nat.le_of_ble_eq_true rfl) dJ2_add_7 ?_
  refine z_weq (w' := [_, zO _ [_, _, _]]) rfl ?_
  refine z_aload_n F dJ2_add_10 rfl ?_
  refine z_aloadQ_n F dJ2_add_11 rfl ?_
  refine z_aload_n F dJ2_add_12 rfl ?_
  refine z_get F zCL (f := 1) rfl (Nat.le_of_ble_eq_true rfl) q210 rfl dJ2_add_13 ?_
  refine z_aload_n F dJ2_add_16 rfl ?_
  refine z_get F zCL (f := 2) rfl (Nat.le_of_ble_eq_true rfl) q211 rfl dJ2_add_17 ?_
  refine z_callVD F (c_Jadd0 _ (m + nI 1) j hj) 3 rfl (lw_V q1117 q1119 qs24 q114 q1120) (by decide +kernel) ⟨Nat.le_of_ble_eq_true rfl, Nat.le_of_ble_eq_true rfl⟩ ⟨by omega, by omega⟩ [0, 1] 2 ⟨rfl, rfl, rfl, ⟨Or.inl rfl, Or.inr rfl, trivial⟩⟩ (fun h => nomatch h) (Nat.le_of_ble_eq_true rfl) ⟨⟨Or.inr trivial, Or.inl rfl, trivial⟩, rfl, rfl, rfl, Nat.le_of_ble_eq_true rfl⟩ rfl zCL rfl rfl dJ2_add_20 (fun r_20 w_20 hp => ?_) (fun _ _ h => h.elim)
  obtain ⟨rfl, rfl⟩ := hp
  refine z_weq (w' := [zH, zO _ [zi _, zr _ _, zi _], zAr _ 10 _]) rfl ?_
  refine z_seq (S' := []) rfl ?_
  refine z_iconst F (nI 1) dJ2_add_23 rfl ?_
  exact z_zret F E rfl rfl dJ2_add_24 (by omega) (by omega) (⟨rfl, rfl⟩)
theorem c_JaddB (D : va_G) (m : Int32) (c j : Nat) (f : Nat → Value) (hc : c < 10) (hj : j < 256) : zCtrD D yJ2_add cJ2_add 2 (some .boolean) 4 1 10 [zr 1 0, zq (D.2 1000 j)] [zH, eLs m c (zr 2 0), zAv 10 f] (fun r w => r = some (zi (nI 1)) ∧ w = [zH, eLs (m + nI 1) (c + 1) (zr 2 0), zAv 10 (zput f c (.ref (D.2 1000 j)))]) zNx := by
  refine z_startD (by decide) [some (zr 1 0), some (zq (D.2 1000 j))] rfl (fun _ => Nat.le_of_ble_eq_true rfl) (fun _ => rfl) (fun X hD F E hno hin => ?_)
  subst hD
  refine z_aload_n F dJ2_add_0 rfl ?_
  refine z_dup F dJ2_add_1 rfl ?_
  refine z_getS F zCL (f := 0) rfl (Nat.le_of_ble_eq_true rfl) q213 q214 rfl dJ2_add_2 ?_
  refine z_iconst F (nI 1) dJ2_add_5 rfl ?_
  refine z_iadd F dJ2_add_6 ?_
  refine z_putS F zCL (f := 0) rfl (Nat.le_of_ble_eq_true rfl) q213 q214 rfl (fun _ => rfl) (fun _ => rfl) (Nat.le_of_ble_eq_true rfl) dJ2_add_7 ?_
  refine z_weq (w' := [_, zO _ [_, _, _], _]) rfl ?_
  refine z_aload_n F dJ2_add_10 rfl ?_
  refine z_aloadQ_n F dJ2_add_11 rfl ?_
  refine z_aload_n F dJ2_add_12 rfl ?_
  refine z_get F zCL (f := 1) rfl (Nat.le_of_ble_eq_true rfl) q210 rfl dJ2_add_13 ?_
  refine z_aload_n F dJ2_add_16 rfl ?_
  refine z_get F zCL (f := 2) rfl (Nat.le_of_ble_eq_true rfl) q211 rfl dJ2_add_17 ?_
  refine z_callVD F (c_Jadd1 _ (m + nI 1) c j f hc hj) 3 rfl (lw_V q1117 q1119 qs24 q114 q1120) (by decide +kernel) ⟨Nat.le_of_ble_eq_true rfl, Nat.le_of_ble_eq_true rfl⟩ ⟨by omega, by omega⟩ [0, 1, 2] 3 ⟨rfl, rfl, rfl, ⟨Or.inl rfl, Or.inr rfl, Or.inr rfl, trivial⟩⟩ (fun h => nomatch h) (Nat.le_of_ble_eq_true rfl) ⟨⟨Or.inr trivial, Or.inl rfl, Or.inl rfl, trivial⟩, rfl, rfl, rfl, Nat.le_of_ble_eq_true rfl⟩ rfl zCL rfl rfl dJ2_add_20 (fun r_20 w_20 hp => ?_) (fun _ _ h => h.elim)
  obtain ⟨rfl, rfl⟩ := hp
  refine z_weq (w' := [zH, zO _ [zi _, zr _ _, zi _], zAr _ 10 _]) rfl ?_
  refine z_seq (S' := []) rfl ?_
  refine z_iconst F (nI 1) dJ2_add_23 rfl ?_
  exact z_zret F E rfl rfl dJ2_add_24 (by omega) (by omega) (⟨rfl, rfl⟩)
theorem c_Jclear0 (D : va_G) (m : Int32) : zCtrD D yJ2_clear cJ2_clear 4 none 0 0 0 [zr 1 0] [zH, eLs m 0 (zq (D.2 1001 1))] (fun r w => r = none ∧ w = [zH, eLs (m + nI 1) 0 (zq (D.2 1001 1))]) zNx := by
  refine z_startD (by decide) [some (zr 1 0), none, none, none] rfl (fun _ => Nat.le_of_ble_eq_true rfl) (fun _ => rfl) (fun X hD F E hno hin => ?_)
  subst hD
  refine z_aload_n F dJ2_clear_0 rfl ?_
  refine z_dup F dJ2_clear_1 rfl ?_
  refine z_getS F zCL (f := 0) rfl (Nat.le_of_ble_eq_true rfl) q213 q214 rfl dJ2_clear_2 ?_
  refine z_iconst F (nI 1) dJ2_clear_5 rfl ?_
  refine z_iadd F dJ2_clear_6 ?_
  refine z_putS F zCL (f := 0) rfl (Nat.le_of_ble_eq_true rfl) q213 q214 rfl (fun _ => rfl) (fun _ => rfl) (Nat.le_of_ble_eq_true rfl) dJ2_clear_7 ?_
  refine z_weq (w' := [_, zO _ [_, _, _]]) rfl ?_
  refine z_aload_n F dJ2_clear_10 rfl ?_
  refine z_get F zCL (f := 1) rfl (Nat.le_of_ble_eq_true rfl) q210 rfl dJ2_clear_11 ?_
  refine z_astoreQ_n F dJ2_clear_14 (Nat.le_of_ble_eq_true rfl) ?_
  refine z_leq (L' := [_, _, _, _]) rfl ?_
  refine z_aload_n F dJ2_clear_15 rfl ?_
  refine z_get F zCL (f := 2) rfl (Nat.le_of_ble_eq_true rfl) q211 rfl dJ2_clear_16 ?_
  refine z_istore_n F dJ2_clear_19 (Nat.le_of_ble_eq_true rfl) ?_
  refine z_leq (L' := [_, _, _, _]) rfl ?_
  refine z_aload_n F dJ2_clear_20 rfl ?_
  refine z_iconst F (nI 0) dJ2_clear_21 rfl ?_
  refine z_dup_x1 F dJ2_clear_22 rfl rfl ?_
  refine z_put F zCL (f := 2) rfl (Nat.le_of_ble_eq_true rfl) q211 rfl (fun _ => rfl) (fun _ => rfl) (Nat.le_of_ble_eq_true rfl) dJ2_clear_23 ?_
  refine z_weq (w' := [_, zO _ [_, _, _]]) rfl ?_
  refine z_istore_n F dJ2_clear_26 (Nat.le_of_ble_eq_true rfl) ?_
  refine z_leq (L' := [_, _, _, _]) rfl ?_
  refine z_iload_n F dJ2_clear_27 rfl ?_
  refine z_iload_n F dJ2_clear_28 rfl ?_
  refine z_icmp_geN F (by omega) (by omega) (tgt := 42) dJ2_clear_29 (by decide) (fun c_29 => ?_) (fun c_29 => ?_)
  · exact z_vret F E rfl dJ2_clear_42 (by omega) (by omega) (⟨rfl, rfl⟩)
  · exact absurd c_29 (by omega)
theorem c_Jclear1 (D : va_G) (m : Int32) (c : Nat) (f : Nat → Value) (hc : c ≤ 10) : zCtrD D yJ2_clear cJ2_clear 4 none 0 0 0 [zr 1 0] [zH, eLs m c (zr 2 0), zAv 10 f] (fun r w => r = none ∧ ∃ f', w = [zH, eLs (m + nI 1) 0 (zr 2 0), zAv 10 f']) zNx := by
  refine z_startD (by decide) [some (zr 1 0), none, none, none] rfl (fun _ => Nat.le_of_ble_eq_true rfl) (fun _ => rfl) (fun X hD F E hno hin => ?_)
  subst hD
  have lp : ∀ (u i : Nat) (g : Nat → Value), c - i < u → i ≤ c → Z X [some (zr 1 0), some (zr 2 0), some (zi (nI c)), some (zi (nI i))] [] [zH, eLs (m + nI 1) 0 (zr 2 0), zAv 10 g] 0 0 27 := by
    intro u
    induction u with
    | zero => intro i g hu; omega
    | succ u ih =>
      intro i g hu hi
      refine z_iload_n F dJ2_clear_27 rfl ?_
      refine z_iload_n F dJ2_clear_28 rfl ?_
      refine z_icmp_geN F (by omega) (by omega) (tgt := 42) dJ2_clear_29 (by decide) (fun c_29 => ?_) (fun c_29 => ?_)
      · exact z_vret F E rfl dJ2_clear_42 (by omega) (by omega) (⟨rfl, g, rfl⟩)
      · refine z_aload_n F dJ2_clear_32 rfl ?_
        refine z_iload_n F dJ2_clear_33 rfl ?_
        refine z_null F dJ2_clear_34 ?_
        refine z_aastZ F rfl (by decide) (by omega) dJ2_clear_35 ?_
        refine z_weq (w' := [zH, zO _ [zi _, zr _ _, zi _], zAr _ 10 _]) rfl ?_
        refine z_iincN F 1 dJ2_clear_36 rfl rfl ?_
        refine z_leq (L' := [_, _, _, _]) rfl ?_
        refine z_goto F (tgt := 27) dJ2_clear_39 (by decide) ?_
        refine z_weq (w' := [zH, eLs (m + nI 1) 0 (zr 2 0), zAv 10 (zput g i .null)]) (by rw [zput_av]) ?_
        exact ih (i + 1) _ (by omega) (by omega)
  refine z_aload_n F dJ2_clear_0 rfl ?_
  refine z_dup F dJ2_clear_1 rfl ?_
  refine z_getS F zCL (f := 0) rfl (Nat.le_of_ble_eq_true rfl) q213 q214 rfl dJ2_clear_2 ?_
  refine z_iconst F (nI 1) dJ2_clear_5 rfl ?_
  refine z_iadd F dJ2_clear_6 ?_
  refine z_putS F zCL (f := 0) rfl (Nat.le_of_ble_eq_true rfl) q213 q214 rfl (fun _ => rfl) (fun _ => rfl) (Nat.le_of_ble_eq_true rfl) dJ2_clear_7 ?_
  refine z_weq (w' := [_, zO _ [_, _, _], _]) rfl ?_
  refine z_aload_n F dJ2_clear_10 rfl ?_
  refine z_get F zCL (f := 1) rfl (Nat.le_of_ble_eq_true rfl) q210 rfl dJ2_clear_11 ?_
  refine z_astore_n F dJ2_clear_14 (Nat.le_of_ble_eq_true rfl) ?_
  refine z_leq (L' := [_, _, _, _]) rfl ?_
  refine z_aload_n F dJ2_clear_15 rfl ?_
  refine z_get F zCL (f := 2) rfl (Nat.le_of_ble_eq_true rfl) q211 rfl dJ2_clear_16 ?_
  refine z_istore_n F dJ2_clear_19 (Nat.le_of_ble_eq_true rfl) ?_
  refine z_leq (L' := [_, _, _, _]) rfl ?_
  refine z_aload_n F dJ2_clear_20 rfl ?_
  refine z_iconst F (nI 0) dJ2_clear_21 rfl ?_
  refine z_dup_x1 F dJ2_clear_22 rfl rfl ?_
  refine z_put F zCL (f := 2) rfl (Nat.le_of_ble_eq_true rfl) q211 rfl (fun _ => rfl) (fun _ => rfl) (Nat.le_of_ble_eq_true rfl) dJ2_clear_23 ?_
  refine z_weq (w' := [_, zO _ [_, _, _], _]) rfl ?_
  refine z_istore_n F dJ2_clear_26 (Nat.le_of_ble_eq_true rfl) ?_
  refine z_leq (L' := [_, _, _, _]) rfl ?_
  exact lp (c + 1) 0 f (by omega) (by omega)
end C9yp
end
section
/-! falls: WiredNets' own way -/
section C9yq
def po (f : Nat → Int32) (l : List (Nat × Nat)) (o : Option Nat) : Nat → Int32 := match o with
  | none => f
  | some i => pt f (la l i) (lb l i)
def bo (o : Option Nat) : Int32 := match o with
  | none => nI 0
  | some i => b1 i
theorem bo_none (x : Int32) : x &&& (nI 0 ^^^ (-1)) = x := by
  refine b_ext fun i hi => ?_
  rw [b_and, bt_not _ hi, show bt (nI 0) i = false from b_0 i, Bool.not_false, Bool.and_true]
theorem cl_cl (x y : Int32) : (x &&& y) &&& y = x &&& y := by
  refine b_ext fun i hi => ?_
  rw [b_and, b_and, Bool.and_assoc, Bool.and_self]
theorem pt_pt {f : Nat → Int32} {a b : Nat} (ha : a < 32) (hb : b < 32) : pt (pt f a b) a b = pt f a b := by
  funext k
  refine b_ext fun i hi => ?_
  rw [bt_pt ha hb _ hi, bt_pt ha hb _ hi]
  cases bt (f k) i <;> cases (decide (k = a) && decide (i = b)) <;> cases (decide (k = b) && decide (i = a)) <;> rfl
theorem c_xfallN (n d : Int32) (f r0 : Nat → Int32) (N : Nat) (b : Bool) : zCtr yX1_fall cX1_fall 4 none 0 0 0 [zr 1 0, zr 3 0, zi (-1), zi (bI b)] [zH, eNet 2 n d, zAi 0 24 f, zAi 0 N r0] (fun r w => r = none ∧ w = [zH, eNet 2 n d, zAi 0 24 f, zAi 0 N r0]) zNx := by
  refine z_start (by decide) [some (zr 1 0), some (zr 3 0), some (zi (-1)), some (zi (bI b))] rfl (fun _ => Nat.le_of_ble_eq_true rfl) (fun _ => rfl) (fun X F E hno hin => ?_)
  refine z_iload_n F dX1_fall_0 rfl ?_
  refine z_iconst F (-1) dX1_fall_1 rfl ?_
  refine z_icmp_ne F (tgt := 6) dX1_fall_2 (by decide) (fun c_2 => ?_) (fun c_2 => ?_)
  · exact absurd rfl c_2
  · exact z_vret F E rfl dX1_fall_5 (by omega) (by omega) (⟨rfl, rfl⟩)
theorem c_xfallT (n d : Nat) (f : Nat → Int32) (i : Nat) (h : nok n d f) (hi : i < (prs n f).length) (g : Nat → Int32) (b : Bool) : zCtr yX1_fall cX1_fall 4 none 1 0 0 [zr 1 0, zr 3 0, zi (nI i), zi (bI b)] [zH, eNet 2 (nI n) (nI d), zAi 0 24 g, zAi 0 (prs n f).length (rowA (prs n f) (fun _ => 0))] (fun r w => r = none ∧ w = [zH, eNet 2 (nI n) (nI d), zAi 0 24 (if b = true then pt g (la (prs n f) i) (lb (prs n f) i) else jn g (la (prs n f) i) (lb (prs n f) i)), zAi 0 (prs n f).length (rowA (prs n f) (fun _ => 0))]) zNx := by
  refine z_start (by decide) [some (zr 1 0), some (zr 3 0), some (zi (nI i)), some (zi (bI b))] rfl (fun _ => Nat.le_of_ble_eq_true rfl) (fun _ => rfl) (fun X F E hno hin => ?_)
  have hn := h.n24
  have h96 := prs_96 h
  obtain ⟨p1, p2, p3⟩ := prs_at hi
  refine z_iload_n F dX1_fall_0 rfl ?_
  refine z_iconst F (-1) dX1_fall_1 rfl ?_
  refine z_icmp_ne F (tgt := 6) dX1_fall_2 (by decide) (fun c_2 => ?_) (fun c_2 => ?_)
  · refine z_iload_n F dX1_fall_6 rfl ?_
    refine z_if_eqB F (tgt := 28) dX1_fall_7 (by decide) (fun c_7 => ?_) (fun c_7 => ?_)
    · refine z_aload_n F dX1_fall_28 rfl ?_
      refine z_aload_n F dX1_fall_29 rfl ?_
      refine z_iload_n F dX1_fall_30 rfl ?_
      refine z_ialdN F rfl (by omega) (by omega) rfl dX1_fall_31 ?_
      refine z_ieq (rw1 hi) ?_
      refine z_iconst F (nI 5) dX1_fall_32 rfl ?_
      refine z_ishr F dX1_fall_33 ?_
      refine z_ieq (pc_hi (by omega) (by omega)) ?_
      refine z_aload_n F dX1_fall_34 rfl ?_
      refine z_iload_n F dX1_fall_35 rfl ?_
      refine z_ialdN F rfl (by omega) (by omega) rfl dX1_fall_36 ?_
      refine z_ieq (rw1 hi) ?_
      refine z_bipush F (nI 31) dX1_fall_37 rfl ?_
      refine z_iand F dX1_fall_39 ?_
      refine z_ieq (pc_lo (by omega) (by omega)) ?_
      refine z_callV F (c_setj (nI n) (nI d) g (la (prs n f) i) (lb (prs n f) i) (by omega) (by omega)) 2 rfl (lw_V q516 q418 q419 q116 q420) (by decide +kernel) ⟨Nat.le_of_ble_eq_true rfl, Nat.le_of_ble_eq_true rfl⟩ ⟨by omega, by omega⟩ [0, 1, 2] 4 ⟨rfl, rfl, rfl, ⟨Or.inl rfl, Or.inr rfl, Or.inr rfl, trivial⟩⟩ (fun h => nomatch h) (Nat.le_of_ble_eq_true rfl) ⟨⟨Or.inr trivial, Or.inl rfl, Or.inl rfl, Or.inr trivial, trivial⟩, rfl, rfl, rfl, Nat.le_of_ble_eq_true rfl⟩ rfl zC5 rfl rfl dX1_fall_40 (fun r_40 w_40 hp => ?_) (fun _ _ h => h.elim)
      obtain ⟨rfl, rfl⟩ := hp
      refine z_weq (w' := [zH, zO _ [zi _, zi _, zr _ _], zAi 0 24 _, zAi 0 (prs n f).length _]) rfl ?_
      refine z_seq (S' := []) rfl ?_
      exact z_vret F E rfl dX1_fall_43 (by omega) (by omega) (⟨rfl, by rw [c_7, if_neg (by decide)]⟩)
    · refine z_aload_n F dX1_fall_10 rfl ?_
      refine z_aload_n F dX1_fall_11 rfl ?_
      refine z_iload_n F dX1_fall_12 rfl ?_
      refine z_ialdN F rfl (by omega) (by omega) rfl dX1_fall_13 ?_
      refine z_ieq (rw1 hi) ?_
      refine z_iconst F (nI 5) dX1_fall_14 rfl ?_
      refine z_ishr F dX1_fall_15 ?_
      refine z_ieq (pc_hi (by omega) (by omega)) ?_
      refine z_aload_n F dX1_fall_16 rfl ?_
      refine z_iload_n F dX1_fall_17 rfl ?_
      refine z_ialdN F rfl (by omega) (by omega) rfl dX1_fall_18 ?_
      refine z_ieq (rw1 hi) ?_
      refine z_bipush F (nI 31) dX1_fall_19 rfl ?_
      refine z_iand F dX1_fall_21 ?_
      refine z_ieq (pc_lo (by omega) (by omega)) ?_
      refine z_callV F (c_clear (nI n) (nI d) g (la (prs n f) i) (lb (prs n f) i) (by omega) (by omega)) 2 rfl (lw_V q525 q526 q527 q116 q528) (by decide +kernel) ⟨Nat.le_of_ble_eq_true rfl, Nat.le_of_ble_eq_true rfl⟩ ⟨by omega, by omega⟩ [0, 1, 2] 4 ⟨rfl, rfl, rfl, ⟨Or.inl rfl, Or.inr rfl, Or.inr rfl, trivial⟩⟩ (fun h => nomatch h) (Nat.le_of_ble_eq_true rfl) ⟨⟨Or.inr trivial, Or.inl rfl, Or.inl rfl, Or.inr trivial, trivial⟩, rfl, rfl, rfl, Nat.le_of_ble_eq_true rfl⟩ rfl zC5 rfl rfl dX1_fall_22 (fun r_22 w_22 hp => ?_) (fun _ _ h => h.elim)
      obtain ⟨rfl, rfl⟩ := hp
      refine z_weq (w' := [zH, zO _ [zi _, zi _, zr _ _], zAi 0 24 _, zAi 0 (prs n f).length _]) rfl ?_
      refine z_seq (S' := []) rfl ?_
      refine z_goto F (tgt := 43) dX1_fall_25 (by decide) ?_
      exact z_vret F E rfl dX1_fall_43 (by omega) (by omega) (⟨rfl, by rw [c_7, if_pos rfl]⟩)
  · exact absurd c_2 (nI_ne (by omega))
theorem c_xleft00 (t : Nat) (fp sn0 g0 sm0 : Int32) (D : Nat → Int32) (n d kind : Nat) (f : Nat → Int32) (h : nok n d f) (hk : kind < 2) : zCtr yX1_left cX1_left 7 (some .int) 4 0 0 [zr 1 0, zr 22 0, zr 24 0, zi (nI kind), zi (-1), zi (-1)] (xBR t fp sn0 g0 sm0 D n d f (prs n f).length (rowA (prs n f) (fun _ => 0))) (fun r w => r = some (zi (nI (cfar n f (allB n)))) ∧ ∃ sn g sm D, w = xBR t fp sn g sm D n d f (prs n f).length (rowA (prs n f) (fun _ => 0))) zNx := by
  refine z_start (by decide) [some (zr 1 0), some (zr 22 0), some (zr 24 0), some (zi (nI kind)), some (zi (-1)), some (zi (-1)), none] rfl (fun _ => Nat.le_of_ble_eq_true rfl) (fun _ => rfl) (fun X F E hno hin => ?_)
  have hn := h.n24
  have h96 := prs_96 h
  have hal : ∀ i, i < 32 → bt (allB n) i = true → i < n := fun i _ q => al_lt hn i q
  refine z_iload_n F dX1_left_0 rfl ?_
  refine z_iconst F (nI 1) dX1_left_1 rfl ?_
  refine z_icmp_neN F (by omega) (by omega) (tgt := 52) dX1_left_2 (by decide) (fun c_2 => ?_) (fun c_2 => ?_)
  · refine z_aload_n F dX1_left_52 rfl ?_
    refine z_aload_n F dX1_left_53 rfl ?_
    refine z_iload F dX1_left_54 rfl ?_
    refine z_iconstB F true dX1_left_56 rfl ?_
    refine z_callS F (c_xfallN (nI n) (nI d) f _ _ true) 4 rfl (lw_S q1075 q1076 q109 q1077) (by decide +kernel) ⟨Nat.le_of_ble_eq_true rfl, Nat.le_of_ble_eq_true rfl⟩ ⟨by omega, by omega⟩ [0, 22, 23, 24] 25 ⟨rfl, rfl, rfl, ⟨Or.inl rfl, Or.inr rfl, Or.inr rfl, Or.inr rfl, trivial⟩⟩ (fun h => nomatch h) (Nat.le_of_ble_eq_true rfl) ⟨⟨Or.inr trivial, Or.inr rfl, Or.inr trivial, Or.inr rfl, Or.inr trivial, Or.inr trivial, Or.inr trivial, Or.inr trivial, Or.inr trivial, Or.inr trivial, Or.inr trivial, Or.inr trivial, Or.inr trivial, Or.inr trivial, Or.inr trivial, Or.inr trivial, Or.inr trivial, Or.inr trivial, Or.inr trivial, Or.inr trivial, Or.inr trivial, Or.inr trivial, Or.inl rfl, Or.inl rfl, Or.inl rfl, trivial⟩, rfl, rfl, rfl, Nat.le_of_ble_eq_true rfl⟩ rfl rfl dX1_left_57 (fun r_57 w_57 hp => ?_) (fun _ _ h => h.elim)
    obtain ⟨rfl, rfl⟩ := hp
    refine z_weq (w' := [zH, zO _ [zr _ _, zr _ _, zr _ _, zr _ _, zr _ _, zi _, zi _, zr _ _, zr _ _], zH, zO _ [zr _ _, zi _, zi _, zi _], zAi 0 24 _, zH, zH, zH, zH, zH, zH, zH, zH, zH, zH, zH, zH, zH, zH, zH, zH, zH, zO _ [zi _, zi _, zr _ _], zAi 0 24 _, zAi 0 (prs n f).length _]) rfl ?_
    refine z_seq (S' := []) rfl ?_
    refine z_aload_n F dX1_left_60 rfl ?_
    refine z_aload_n F dX1_left_61 rfl ?_
    refine z_iload F dX1_left_62 rfl ?_
    refine z_iconstB F true dX1_left_64 rfl ?_
    refine z_callS F (c_xfallN (nI n) (nI d) f _ _ true) 4 rfl (lw_S q1075 q1076 q109 q1077) (by decide +kernel) ⟨Nat.le_of_ble_eq_true rfl, Nat.le_of_ble_eq_true rfl⟩ ⟨by omega, by omega⟩ [0, 22, 23, 24] 25 ⟨rfl, rfl, rfl, ⟨Or.inl rfl, Or.inr rfl, Or.inr rfl, Or.inr rfl, trivial⟩⟩ (fun h => nomatch h) (Nat.le_of_ble_eq_true rfl) ⟨⟨Or.inr trivial, Or.inr rfl, Or.inr trivial, Or.inr rfl, Or.inr trivial, Or.inr trivial, Or.inr trivial, Or.inr trivial, Or.inr trivial, Or.inr trivial, Or.inr trivial, Or.inr trivial, Or.inr trivial, Or.inr trivial, Or.inr trivial, Or.inr trivial, Or.inr trivial, Or.inr trivial, Or.inr trivial, Or.inr trivial, Or.inr trivial, Or.inr trivial, Or.inl rfl, Or.inl rfl, Or.inl rfl, trivial⟩, rfl, rfl, rfl, Nat.le_of_ble_eq_true rfl⟩ rfl rfl dX1_left_65 (fun r_65 w_65 hp => ?_) (fun _ _ h => h.elim)
    obtain ⟨rfl, rfl⟩ := hp
    refine z_weq (w' := [zH, zO _ [zr _ _, zr _ _, zr _ _, zr _ _, zr _ _, zi _, zi _, zr _ _, zr _ _], zH, zO _ [zr _ _, zi _, zi _, zi _], zAi 0 24 _, zH, zH, zH, zH, zH, zH, zH, zH, zH, zH, zH, zH, zH, zH, zH, zH, zH, zO _ [zi _, zi _, zr _ _], zAi 0 24 _, zAi 0 (prs n f).length _]) rfl ?_
    refine z_seq (S' := []) rfl ?_
    refine z_aload_n F dX1_left_68 rfl ?_
    refine z_get F zC1 (f := 2) rfl (Nat.le_of_ble_eq_true rfl) q316 rfl dX1_left_69 ?_
    refine z_aload_n F dX1_left_72 rfl ?_
    refine z_aload_n F dX1_left_73 rfl ?_
    refine z_callV F (c_all n (nI d) hn) 0 rfl (lw_V q822 q800 q801 q116 q802) (by decide +kernel) ⟨Nat.le_of_ble_eq_true rfl, Nat.le_of_ble_eq_true rfl⟩ ⟨by omega, by omega⟩ [0, 22, 23] 25 ⟨rfl, rfl, rfl, ⟨Or.inl rfl, Or.inr rfl, Or.inl rfl, trivial⟩⟩ (fun h => nomatch h) (Nat.le_of_ble_eq_true rfl) ⟨⟨Or.inr trivial, Or.inr rfl, Or.inr trivial, Or.inr rfl, Or.inr trivial, Or.inr trivial, Or.inr trivial, Or.inr trivial, Or.inr trivial, Or.inr trivial, Or.inr trivial, Or.inr trivial, Or.inr trivial, Or.inr trivial, Or.inr trivial, Or.inr trivial, Or.inr trivial, Or.inr trivial, Or.inr trivial, Or.inr trivial, Or.inr trivial, Or.inr trivial, Or.inl rfl, Or.inr trivial, Or.inr trivial, trivial⟩, rfl, rfl, rfl, Nat.le_of_ble_eq_true rfl⟩ rfl zC5 rfl rfl dX1_left_74 (fun r_74 w_74 hp => ?_) (fun _ _ h => h.elim)
    obtain ⟨rfl, rfl⟩ := hp
    refine z_weq (w' := [zH, zO _ [zr _ _, zr _ _, zr _ _, zr _ _, zr _ _, zi _, zi _, zr _ _, zr _ _], zH, zO _ [zr _ _, zi _, zi _, zi _], zAi 0 24 _, zH, zH, zH, zH, zH, zH, zH, zH, zH, zH, zH, zH, zH, zH, zH, zH, zH, zO _ [zi _, zi _, zr _ _], zAi 0 24 _, zAi 0 (prs n f).length _]) rfl ?_
    refine z_seq (S' := zi _ :: _) rfl ?_
    refine z_callV F (c_farthest n (nI d) f (allB n) _ _ _ _ hn hal) 2 rfl (lw_V q823 q824 q825 q110 q826) (by decide +kernel) ⟨Nat.le_of_ble_eq_true rfl, Nat.le_of_ble_eq_true rfl⟩ ⟨by omega, by omega⟩ [0, 3, 4, 22, 23] 25 ⟨rfl, rfl, rfl, ⟨Or.inl rfl, Or.inr rfl, Or.inr rfl, Or.inr rfl, Or.inr rfl, trivial⟩⟩ (fun h => nomatch h) (Nat.le_of_ble_eq_true rfl) ⟨⟨Or.inr trivial, Or.inr rfl, Or.inr trivial, Or.inl rfl, Or.inl rfl, Or.inr trivial, Or.inr trivial, Or.inr trivial, Or.inr trivial, Or.inr trivial, Or.inr trivial, Or.inr trivial, Or.inr trivial, Or.inr trivial, Or.inr trivial, Or.inr trivial, Or.inr trivial, Or.inr trivial, Or.inr trivial, Or.inr trivial, Or.inr trivial, Or.inr trivial, Or.inl rfl, Or.inl rfl, Or.inr trivial, trivial⟩, rfl, rfl, rfl, Nat.le_of_ble_eq_true rfl⟩ rfl zC2 rfl rfl dX1_left_77 (fun r_77 w_77 hp => ?_) (fun _ _ h => h.elim)
    obtain ⟨rfl, sn1, g1, sm1, D1, rfl⟩ := hp
    refine z_weq (w' := [zH, zO _ [zr _ _, zr _ _, zr _ _, zr _ _, zr _ _, zi _, zi _, zr _ _, zr _ _], zH, zO _ [zr _ _, zi _, zi _, zi _], zAi 0 24 _, zH, zH, zH, zH, zH, zH, zH, zH, zH, zH, zH, zH, zH, zH, zH, zH, zH, zO _ [zi _, zi _, zr _ _], zAi 0 24 _, zAi 0 (prs n f).length _]) rfl ?_
    refine z_seq (S' := zi _ :: _) rfl ?_
    refine z_istore F dX1_left_80 (Nat.le_of_ble_eq_true rfl) ?_
    refine z_leq (L' := [_, _, _, _, _, _, _]) rfl ?_
    refine z_aload_n F dX1_left_82 rfl ?_
    refine z_aload_n F dX1_left_83 rfl ?_
    refine z_iload F dX1_left_84 rfl ?_
    refine z_iconstB F false dX1_left_86 rfl ?_
    refine z_callS F (c_xfallN (nI n) (nI d) f _ _ false) 4 rfl (lw_S q1075 q1076 q109 q1077) (by decide +kernel) ⟨Nat.le_of_ble_eq_true rfl, Nat.le_of_ble_eq_true rfl⟩ ⟨by omega, by omega⟩ [0, 22, 23, 24] 25 ⟨rfl, rfl, rfl, ⟨Or.inl rfl, Or.inr rfl, Or.inr rfl, Or.inr rfl, trivial⟩⟩ (fun h => nomatch h) (Nat.le_of_ble_eq_true rfl) ⟨⟨Or.inr trivial, Or.inr rfl, Or.inr trivial, Or.inr rfl, Or.inr trivial, Or.inr trivial, Or.inr trivial, Or.inr trivial, Or.inr trivial, Or.inr trivial, Or.inr trivial, Or.inr trivial, Or.inr trivial, Or.inr trivial, Or.inr trivial, Or.inr trivial, Or.inr trivial, Or.inr trivial, Or.inr trivial, Or.inr trivial, Or.inr trivial, Or.inr trivial, Or.inl rfl, Or.inl rfl, Or.inl rfl, trivial⟩, rfl, rfl, rfl, Nat.le_of_ble_eq_true rfl⟩ rfl rfl dX1_left_87 (fun r_87 w_87 hp => ?_) (fun _ _ h => h.elim)
    obtain ⟨rfl, rfl⟩ := hp
    refine z_weq (w' := [zH, zO _ [zr _ _, zr _ _, zr _ _, zr _ _, zr _ _, zi _, zi _, zr _ _, zr _ _], zH, zO _ [zr _ _, zi _, zi _, zi _], zAi 0 24 _, zH, zH, zH, zH, zH, zH, zH, zH, zH, zH, zH, zH, zH, zH, zH, zH, zH, zO _ [zi _, zi _, zr _ _], zAi 0 24 _, zAi 0 (prs n f).length _]) rfl ?_
    refine z_seq (S' := []) rfl ?_
    refine z_aload_n F dX1_left_90 rfl ?_
    refine z_aload_n F dX1_left_91 rfl ?_
    refine z_iload F dX1_left_92 rfl ?_
    refine z_iconstB F false dX1_left_94 rfl ?_
    refine z_callS F (c_xfallN (nI n) (nI d) f _ _ false) 4 rfl (lw_S q1075 q1076 q109 q1077) (by decide +kernel) ⟨Nat.le_of_ble_eq_true rfl, Nat.le_of_ble_eq_true rfl⟩ ⟨by omega, by omega⟩ [0, 22, 23, 24] 25 ⟨rfl, rfl, rfl, ⟨Or.inl rfl, Or.inr rfl, Or.inr rfl, Or.inr rfl, trivial⟩⟩ (fun h => nomatch h) (Nat.le_of_ble_eq_true rfl) ⟨⟨Or.inr trivial, Or.inr rfl, Or.inr trivial, Or.inr rfl, Or.inr trivial, Or.inr trivial, Or.inr trivial, Or.inr trivial, Or.inr trivial, Or.inr trivial, Or.inr trivial, Or.inr trivial, Or.inr trivial, Or.inr trivial, Or.inr trivial, Or.inr trivial, Or.inr trivial, Or.inr trivial, Or.inr trivial, Or.inr trivial, Or.inr trivial, Or.inr trivial, Or.inl rfl, Or.inl rfl, Or.inl rfl, trivial⟩, rfl, rfl, rfl, Nat.le_of_ble_eq_true rfl⟩ rfl rfl dX1_left_95 (fun r_95 w_95 hp => ?_) (fun _ _ h => h.elim)
    obtain ⟨rfl, rfl⟩ := hp
    refine z_weq (w' := [zH, zO _ [zr _ _, zr _ _, zr _ _, zr _ _, zr _ _, zi _, zi _, zr _ _, zr _ _], zH, zO _ [zr _ _, zi _, zi _, zi _], zAi 0 24 _, zH, zH, zH, zH, zH, zH, zH, zH, zH, zH, zH, zH, zH, zH, zH, zH, zH, zO _ [zi _, zi _, zr _ _], zAi 0 24 _, zAi 0 (prs n f).length _]) rfl ?_
    refine z_seq (S' := []) rfl ?_
    refine z_iload F dX1_left_98 rfl ?_
    exact z_iret F E rfl dX1_left_100 (by omega) (by omega) (⟨by rw [show cfar n f (allB n) = cfar n f (allB n) from rfl], _, _, _, _, rfl⟩)
  · refine z_aload_n F dX1_left_5 rfl ?_
    refine z_get F zC1 (f := 2) rfl (Nat.le_of_ble_eq_true rfl) q316 rfl dX1_left_6 ?_
    refine z_aload_n F dX1_left_9 rfl ?_
    refine z_aload_n F dX1_left_10 rfl ?_
    refine z_callV F (c_all n (nI d) hn) 0 rfl (lw_V q822 q800 q801 q116 q802) (by decide +kernel) ⟨Nat.le_of_ble_eq_true rfl, Nat.le_of_ble_eq_true rfl⟩ ⟨by omega, by omega⟩ [0, 22, 23] 25 ⟨rfl, rfl, rfl, ⟨Or.inl rfl, Or.inr rfl, Or.inl rfl, trivial⟩⟩ (fun h => nomatch h) (Nat.le_of_ble_eq_true rfl) ⟨⟨Or.inr trivial, Or.inr rfl, Or.inr trivial, Or.inr rfl, Or.inr trivial, Or.inr trivial, Or.inr trivial, Or.inr trivial, Or.inr trivial, Or.inr trivial, Or.inr trivial, Or.inr trivial, Or.inr trivial, Or.inr trivial, Or.inr trivial, Or.inr trivial, Or.inr trivial, Or.inr trivial, Or.inr trivial, Or.inr trivial, Or.inr trivial, Or.inr trivial, Or.inl rfl, Or.inr trivial, Or.inr trivial, trivial⟩, rfl, rfl, rfl, Nat.le_of_ble_eq_true rfl⟩ rfl zC5 rfl rfl dX1_left_11 (fun r_11 w_11 hp => ?_) (fun _ _ h => h.elim)
    obtain ⟨rfl, rfl⟩ := hp
    refine z_weq (w' := [zH, zO _ [zr _ _, zr _ _, zr _ _, zr _ _, zr _ _, zi _, zi _, zr _ _, zr _ _], zH, zO _ [zr _ _, zi _, zi _, zi _], zAi 0 24 _, zH, zH, zH, zH, zH, zH, zH, zH, zH, zH, zH, zH, zH, zH, zH, zH, zH, zO _ [zi _, zi _, zr _ _], zAi 0 24 _, zAi 0 (prs n f).length _]) rfl ?_
    refine z_seq (S' := zi _ :: _) rfl ?_
    refine z_iload F dX1_left_14 rfl ?_
    refine z_iconst F (-1) dX1_left_16 rfl ?_
    refine z_icmp_ne F (tgt := 24) dX1_left_17 (by decide) (fun c_17 => ?_) (fun c_17 => ?_)
    · exact absurd rfl c_17
    · refine z_iconst F (nI 0) dX1_left_20 rfl ?_
      refine z_goto F (tgt := 28) dX1_left_21 (by decide) ?_
      refine z_iconst F (-1) dX1_left_28 rfl ?_
      refine z_ixor F dX1_left_29 ?_
      refine z_iand F dX1_left_30 ?_
      refine z_iload F dX1_left_31 rfl ?_
      refine z_iconst F (-1) dX1_left_33 rfl ?_
      refine z_icmp_ne F (tgt := 41) dX1_left_34 (by decide) (fun c_34 => ?_) (fun c_34 => ?_)
      · exact absurd rfl c_34
      · refine z_iconst F (nI 0) dX1_left_37 rfl ?_
        refine z_goto F (tgt := 45) dX1_left_38 (by decide) ?_
        refine z_iconst F (-1) dX1_left_45 rfl ?_
        refine z_ixor F dX1_left_46 ?_
        refine z_iand F dX1_left_47 ?_
        refine z_ieq ((bo_none _).trans (bo_none _)) ?_
        refine z_callV F (c_farthest n (nI d) f (allB n) _ _ _ _ hn (hal)) 2 rfl (lw_V q823 q824 q825 q110 q826) (by decide +kernel) ⟨Nat.le_of_ble_eq_true rfl, Nat.le_of_ble_eq_true rfl⟩ ⟨by omega, by omega⟩ [0, 3, 4, 22, 23] 25 ⟨rfl, rfl, rfl, ⟨Or.inl rfl, Or.inr rfl, Or.inr rfl, Or.inr rfl, Or.inr rfl, trivial⟩⟩ (fun h => nomatch h) (Nat.le_of_ble_eq_true rfl) ⟨⟨Or.inr trivial, Or.inr rfl, Or.inr trivial, Or.inl rfl, Or.inl rfl, Or.inr trivial, Or.inr trivial, Or.inr trivial, Or.inr trivial, Or.inr trivial, Or.inr trivial, Or.inr trivial, Or.inr trivial, Or.inr trivial, Or.inr trivial, Or.inr trivial, Or.inr trivial, Or.inr trivial, Or.inr trivial, Or.inr trivial, Or.inr trivial, Or.inr trivial, Or.inl rfl, Or.inl rfl, Or.inr trivial, trivial⟩, rfl, rfl, rfl, Nat.le_of_ble_eq_true rfl⟩ rfl zC2 rfl rfl dX1_left_48 (fun r_48 w_48 hp => ?_) (fun _ _ h => h.elim)
        obtain ⟨rfl, sn1, g1, sm1, D1, rfl⟩ := hp
        refine z_weq (w' := [zH, zO _ [zr _ _, zr _ _, zr _ _, zr _ _, zr _ _, zi _, zi _, zr _ _, zr _ _], zH, zO _ [zr _ _, zi _, zi _, zi _], zAi 0 24 _, zH, zH, zH, zH, zH, zH, zH, zH, zH, zH, zH, zH, zH, zH, zH, zH, zH, zO _ [zi _, zi _, zr _ _], zAi 0 24 _, zAi 0 (prs n f).length _]) rfl ?_
        refine z_seq (S' := zi _ :: _) rfl ?_
        exact z_iret F E rfl dX1_left_51 (by omega) (by omega) (⟨by rw [show cfar n f (allB n) = cfar n f (allB n) from rfl], sn1, g1, sm1, D1, rfl⟩)
theorem c_xleft10 (t : Nat) (fp sn0 g0 sm0 : Int32) (D : Nat → Int32) (n d kind : Nat) (f : Nat → Int32) (i : Nat) (hi : i < flN kind n f) (h : nok n d f) (hk : kind < 2) : zCtr yX1_left cX1_left 7 (some .int) 4 0 0 [zr 1 0, zr 22 0, zr 24 0, zi (nI kind), zi (nI i), zi (-1)] (xBR t fp sn0 g0 sm0 D n d f (prs n f).length (rowA (prs n f) (fun _ => 0))) (fun r w => r = some (zi (nI (flV n f kind i i))) ∧ ∃ sn g sm D, w = xBR t fp sn g sm D n d f (prs n f).length (rowA (prs n f) (fun _ => 0))) zNx := by
  refine z_start (by decide) [some (zr 1 0), some (zr 22 0), some (zr 24 0), some (zi (nI kind)), some (zi (nI i)), some (zi (-1)), none] rfl (fun _ => Nat.le_of_ble_eq_true rfl) (fun _ => rfl) (fun X F E hno hin => ?_)
  have hn := h.n24
  have h96 := prs_96 h
  have hal : ∀ i, i < 32 → bt (allB n) i = true → i < n := fun i _ q => al_lt hn i q
  have hln : kind = 0 → i < (prs n f).length := fun e => by
    unfold flN at hi; rw [if_pos e] at hi; exact hi
  have hkn : kind = 1 → i < n := fun e => by
    unfold flN at hi; rw [if_neg (by omega)] at hi; exact hi
  have hi96 : i < 97 := by
    rcases (show kind = 0 ∨ kind = 1 by omega) with e | e
    · have := hln e; omega
    · have := hkn e; omega
  refine z_iload_n F dX1_left_0 rfl ?_
  refine z_iconst F (nI 1) dX1_left_1 rfl ?_
  refine z_icmp_neN F (by omega) (by omega) (tgt := 52) dX1_left_2 (by decide) (fun c_2 => ?_) (fun c_2 => ?_)
  · obtain ⟨p1, p2, p3⟩ := prs_at (hln (by omega))
    have p4 : bt (f (lb (prs n f) i)) (la (prs n f) i) = true := by rw [← h.sym (by omega) p2]; exact p3
    have ev : flV n f kind i i = cfar n (pt f (la (prs n f) i) (lb (prs n f) i)) (allB n) := by
      rw [flV, if_neg (by omega), ptp, pt_pt (by omega) (by omega)]
    have hr : jn (pt f (la (prs n f) i) (lb (prs n f) i)) (la (prs n f) i) (lb (prs n f) i) = f := jn_pt (by omega) (by omega) (by omega) p3 p4
    refine z_aload_n F dX1_left_52 rfl ?_
    refine z_aload_n F dX1_left_53 rfl ?_
    refine z_iload F dX1_left_54 rfl ?_
    refine z_iconstB F true dX1_left_56 rfl ?_
    refine z_callS F (c_xfallT n d f i h (hln (by omega)) f true) 4 rfl (lw_S q1075 q1076 q109 q1077) (by decide +kernel) ⟨Nat.le_of_ble_eq_true rfl, Nat.le_of_ble_eq_true rfl⟩ ⟨by omega, by omega⟩ [0, 22, 23, 24] 25 ⟨rfl, rfl, rfl, ⟨Or.inl rfl, Or.inr rfl, Or.inr rfl, Or.inr rfl, trivial⟩⟩ (fun h => nomatch h) (Nat.le_of_ble_eq_true rfl) ⟨⟨Or.inr trivial, Or.inr rfl, Or.inr trivial, Or.inr rfl, Or.inr trivial, Or.inr trivial, Or.inr trivial, Or.inr trivial, Or.inr trivial, Or.inr trivial, Or.inr trivial, Or.inr trivial, Or.inr trivial, Or.inr trivial, Or.inr trivial, Or.inr trivial, Or.inr trivial, Or.inr trivial, Or.inr trivial, Or.inr trivial, Or.inr trivial, Or.inr trivial, Or.inl rfl, Or.inl rfl, Or.inl rfl, trivial⟩, rfl, rfl, rfl, Nat.le_of_ble_eq_true rfl⟩ rfl rfl dX1_left_57 (fun r_57 w_57 hp => ?_) (fun _ _ h => h.elim)
    obtain ⟨rfl, rfl⟩ := hp
    rw [if_pos rfl]
    refine z_weq (w' := [zH, zO _ [zr _ _, zr _ _, zr _ _, zr _ _, zr _ _, zi _, zi _, zr _ _, zr _ _], zH, zO _ [zr _ _, zi _, zi _, zi _], zAi 0 24 _, zH, zH, zH, zH, zH, zH, zH, zH, zH, zH, zH, zH, zH, zH, zH, zH, zH, zO _ [zi _, zi _, zr _ _], zAi 0 24 _, zAi 0 (prs n f).length _]) rfl ?_
    refine z_seq (S' := []) rfl ?_
    refine z_aload_n F dX1_left_60 rfl ?_
    refine z_aload_n F dX1_left_61 rfl ?_
    refine z_iload F dX1_left_62 rfl ?_
    refine z_iconstB F true dX1_left_64 rfl ?_
    refine z_callS F (c_xfallN (nI n) (nI d) (pt f (la (prs n f) i) (lb (prs n f) i)) _ _ true) 4 rfl (lw_S q1075 q1076 q109 q1077) (by decide +kernel) ⟨Nat.le_of_ble_eq_true rfl, Nat.le_of_ble_eq_true rfl⟩ ⟨by omega, by omega⟩ [0, 22, 23, 24] 25 ⟨rfl, rfl, rfl, ⟨Or.inl rfl, Or.inr rfl, Or.inr rfl, Or.inr rfl, trivial⟩⟩ (fun h => nomatch h) (Nat.le_of_ble_eq_true rfl) ⟨⟨Or.inr trivial, Or.inr rfl, Or.inr trivial, Or.inr rfl, Or.inr trivial, Or.inr trivial, Or.inr trivial, Or.inr trivial, Or.inr trivial, Or.inr trivial, Or.inr trivial, Or.inr trivial, Or.inr trivial, Or.inr trivial, Or.inr trivial, Or.inr trivial, Or.inr trivial, Or.inr trivial, Or.inr trivial, Or.inr trivial, Or.inr trivial, Or.inr trivial, Or.inl rfl, Or.inl rfl, Or.inl rfl, trivial⟩, rfl, rfl, rfl, Nat.le_of_ble_eq_true rfl⟩ rfl rfl dX1_left_65 (fun r_65 w_65 hp => ?_) (fun _ _ h => h.elim)
    obtain ⟨rfl, rfl⟩ := hp
    refine z_weq (w' := [zH, zO _ [zr _ _, zr _ _, zr _ _, zr _ _, zr _ _, zi _, zi _, zr _ _, zr _ _], zH, zO _ [zr _ _, zi _, zi _, zi _], zAi 0 24 _, zH, zH, zH, zH, zH, zH, zH, zH, zH, zH, zH, zH, zH, zH, zH, zH, zH, zO _ [zi _, zi _, zr _ _], zAi 0 24 _, zAi 0 (prs n f).length _]) rfl ?_
    refine z_seq (S' := []) rfl ?_
    refine z_aload_n F dX1_left_68 rfl ?_
    refine z_get F zC1 (f := 2) rfl (Nat.le_of_ble_eq_true rfl) q316 rfl dX1_left_69 ?_
    refine z_aload_n F dX1_left_72 rfl ?_
    refine z_aload_n F dX1_left_73 rfl ?_
    refine z_callV F (c_all n (nI d) hn) 0 rfl (lw_V q822 q800 q801 q116 q802) (by decide +kernel) ⟨Nat.le_of_ble_eq_true rfl, Nat.le_of_ble_eq_true rfl⟩ ⟨by omega, by omega⟩ [0, 22, 23] 25 ⟨rfl, rfl, rfl, ⟨Or.inl rfl, Or.inr rfl, Or.inl rfl, trivial⟩⟩ (fun h => nomatch h) (Nat.le_of_ble_eq_true rfl) ⟨⟨Or.inr trivial, Or.inr rfl, Or.inr trivial, Or.inr rfl, Or.inr trivial, Or.inr trivial, Or.inr trivial, Or.inr trivial, Or.inr trivial, Or.inr trivial, Or.inr trivial, Or.inr trivial, Or.inr trivial, Or.inr trivial, Or.inr trivial, Or.inr trivial, Or.inr trivial, Or.inr trivial, Or.inr trivial, Or.inr trivial, Or.inr trivial, Or.inr trivial, Or.inl rfl, Or.inr trivial, Or.inr trivial, trivial⟩, rfl, rfl, rfl, Nat.le_of_ble_eq_true rfl⟩ rfl zC5 rfl rfl dX1_left_74 (fun r_74 w_74 hp => ?_) (fun _ _ h => h.elim)
    obtain ⟨rfl, rfl⟩ := hp
    refine z_weq (w' := [zH, zO _ [zr _ _, zr _ _, zr _ _, zr _ _, zr _ _, zi _, zi _, zr _ _, zr _ _], zH, zO _ [zr _ _, zi _, zi _, zi _], zAi 0 24 _, zH, zH, zH, zH, zH, zH, zH, zH, zH, zH, zH, zH, zH, zH, zH, zH, zH, zO _ [zi _, zi _, zr _ _], zAi 0 24 _, zAi 0 (prs n f).length _]) rfl ?_
    refine z_seq (S' := zi _ :: _) rfl ?_
    refine z_callV F (c_farthest n (nI d) (pt f (la (prs n f) i) (lb (prs n f) i)) (allB n) _ _ _ _ hn hal) 2 rfl (lw_V q823 q824 q825 q110 q826) (by decide +kernel) ⟨Nat.le_of_ble_eq_true rfl, Nat.le_of_ble_eq_true rfl⟩ ⟨by omega, by omega⟩ [0, 3, 4, 22, 23] 25 ⟨rfl, rfl, rfl, ⟨Or.inl rfl, Or.inr rfl, Or.inr rfl, Or.inr rfl, Or.inr rfl, trivial⟩⟩ (fun h => nomatch h) (Nat.le_of_ble_eq_true rfl) ⟨⟨Or.inr trivial, Or.inr rfl, Or.inr trivial, Or.inl rfl, Or.inl rfl, Or.inr trivial, Or.inr trivial, Or.inr trivial, Or.inr trivial, Or.inr trivial, Or.inr trivial, Or.inr trivial, Or.inr trivial, Or.inr trivial, Or.inr trivial, Or.inr trivial, Or.inr trivial, Or.inr trivial, Or.inr trivial, Or.inr trivial, Or.inr trivial, Or.inr trivial, Or.inl rfl, Or.inl rfl, Or.inr trivial, trivial⟩, rfl, rfl, rfl, Nat.le_of_ble_eq_true rfl⟩ rfl zC2 rfl rfl dX1_left_77 (fun r_77 w_77 hp => ?_) (fun _ _ h => h.elim)
    obtain ⟨rfl, sn1, g1, sm1, D1, rfl⟩ := hp
    refine z_weq (w' := [zH, zO _ [zr _ _, zr _ _, zr _ _, zr _ _, zr _ _, zi _, zi _, zr _ _, zr _ _], zH, zO _ [zr _ _, zi _, zi _, zi _], zAi 0 24 _, zH, zH, zH, zH, zH, zH, zH, zH, zH, zH, zH, zH, zH, zH, zH, zH, zH, zO _ [zi _, zi _, zr _ _], zAi 0 24 _, zAi 0 (prs n f).length _]) rfl ?_
    refine z_seq (S' := zi _ :: _) rfl ?_
    refine z_istore F dX1_left_80 (Nat.le_of_ble_eq_true rfl) ?_
    refine z_leq (L' := [_, _, _, _, _, _, _]) rfl ?_
    refine z_aload_n F dX1_left_82 rfl ?_
    refine z_aload_n F dX1_left_83 rfl ?_
    refine z_iload F dX1_left_84 rfl ?_
    refine z_iconstB F false dX1_left_86 rfl ?_
    refine z_callS F (c_xfallT n d f i h (hln (by omega)) (pt f (la (prs n f) i) (lb (prs n f) i)) false) 4 rfl (lw_S q1075 q1076 q109 q1077) (by decide +kernel) ⟨Nat.le_of_ble_eq_true rfl, Nat.le_of_ble_eq_true rfl⟩ ⟨by omega, by omega⟩ [0, 22, 23, 24] 25 ⟨rfl, rfl, rfl, ⟨Or.inl rfl, Or.inr rfl, Or.inr rfl, Or.inr rfl, trivial⟩⟩ (fun h => nomatch h) (Nat.le_of_ble_eq_true rfl) ⟨⟨Or.inr trivial, Or.inr rfl, Or.inr trivial, Or.inr rfl, Or.inr trivial, Or.inr trivial, Or.inr trivial, Or.inr trivial, Or.inr trivial, Or.inr trivial, Or.inr trivial, Or.inr trivial, Or.inr trivial, Or.inr trivial, Or.inr trivial, Or.inr trivial, Or.inr trivial, Or.inr trivial, Or.inr trivial, Or.inr trivial, Or.inr trivial, Or.inr trivial, Or.inl rfl, Or.inl rfl, Or.inl rfl, trivial⟩, rfl, rfl, rfl, Nat.le_of_ble_eq_true rfl⟩ rfl rfl dX1_left_87 (fun r_87 w_87 hp => ?_) (fun _ _ h => h.elim)
    obtain ⟨rfl, rfl⟩ := hp
    rw [if_neg (by decide), hr]
    refine z_weq (w' := [zH, zO _ [zr _ _, zr _ _, zr _ _, zr _ _, zr _ _, zi _, zi _, zr _ _, zr _ _], zH, zO _ [zr _ _, zi _, zi _, zi _], zAi 0 24 _, zH, zH, zH, zH, zH, zH, zH, zH, zH, zH, zH, zH, zH, zH, zH, zH, zH, zO _ [zi _, zi _, zr _ _], zAi 0 24 _, zAi 0 (prs n f).length _]) rfl ?_
    refine z_seq (S' := []) rfl ?_
    refine z_aload_n F dX1_left_90 rfl ?_
    refine z_aload_n F dX1_left_91 rfl ?_
    refine z_iload F dX1_left_92 rfl ?_
    refine z_iconstB F false dX1_left_94 rfl ?_
    refine z_callS F (c_xfallN (nI n) (nI d) f _ _ false) 4 rfl (lw_S q1075 q1076 q109 q1077) (by decide +kernel) ⟨Nat.le_of_ble_eq_true rfl, Nat.le_of_ble_eq_true rfl⟩ ⟨by omega, by omega⟩ [0, 22, 23, 24] 25 ⟨rfl, rfl, rfl, ⟨Or.inl rfl, Or.inr rfl, Or.inr rfl, Or.inr rfl, trivial⟩⟩ (fun h => nomatch h) (Nat.le_of_ble_eq_true rfl) ⟨⟨Or.inr trivial, Or.inr rfl, Or.inr trivial, Or.inr rfl, Or.inr trivial, Or.inr trivial, Or.inr trivial, Or.inr trivial, Or.inr trivial, Or.inr trivial, Or.inr trivial, Or.inr trivial, Or.inr trivial, Or.inr trivial, Or.inr trivial, Or.inr trivial, Or.inr trivial, Or.inr trivial, Or.inr trivial, Or.inr trivial, Or.inr trivial, Or.inr trivial, Or.inl rfl, Or.inl rfl, Or.inl rfl, trivial⟩, rfl, rfl, rfl, Nat.le_of_ble_eq_true rfl⟩ rfl rfl dX1_left_95 (fun r_95 w_95 hp => ?_) (fun _ _ h => h.elim)
    obtain ⟨rfl, rfl⟩ := hp
    refine z_weq (w' := [zH, zO _ [zr _ _, zr _ _, zr _ _, zr _ _, zr _ _, zi _, zi _, zr _ _, zr _ _], zH, zO _ [zr _ _, zi _, zi _, zi _], zAi 0 24 _, zH, zH, zH, zH, zH, zH, zH, zH, zH, zH, zH, zH, zH, zH, zH, zH, zH, zO _ [zi _, zi _, zr _ _], zAi 0 24 _, zAi 0 (prs n f).length _]) rfl ?_
    refine z_seq (S' := []) rfl ?_
    refine z_iload F dX1_left_98 rfl ?_
    exact z_iret F E rfl dX1_left_100 (by omega) (by omega) (⟨by rw [ev], _, _, _, _, rfl⟩)
  · have hin := hkn (by omega)
    have ev : flV n f kind i i = cfar n f (allB n &&& (b1 i ^^^ (-1))) := by
      rw [flV, if_pos (by omega), stp, cl_cl]
    refine z_aload_n F dX1_left_5 rfl ?_
    refine z_get F zC1 (f := 2) rfl (Nat.le_of_ble_eq_true rfl) q316 rfl dX1_left_6 ?_
    refine z_aload_n F dX1_left_9 rfl ?_
    refine z_aload_n F dX1_left_10 rfl ?_
    refine z_callV F (c_all n (nI d) hn) 0 rfl (lw_V q822 q800 q801 q116 q802) (by decide +kernel) ⟨Nat.le_of_ble_eq_true rfl, Nat.le_of_ble_eq_true rfl⟩ ⟨by omega, by omega⟩ [0, 22, 23] 25 ⟨rfl, rfl, rfl, ⟨Or.inl rfl, Or.inr rfl, Or.inl rfl, trivial⟩⟩ (fun h => nomatch h) (Nat.le_of_ble_eq_true rfl) ⟨⟨Or.inr trivial, Or.inr rfl, Or.inr trivial, Or.inr rfl, Or.inr trivial, Or.inr trivial, Or.inr trivial, Or.inr trivial, Or.inr trivial, Or.inr trivial, Or.inr trivial, Or.inr trivial, Or.inr trivial, Or.inr trivial, Or.inr trivial, Or.inr trivial, Or.inr trivial, Or.inr trivial, Or.inr trivial, Or.inr trivial, Or.inr trivial, Or.inr trivial, Or.inl rfl, Or.inr trivial, Or.inr trivial, trivial⟩, rfl, rfl, rfl, Nat.le_of_ble_eq_true rfl⟩ rfl zC5 rfl rfl dX1_left_11 (fun r_11 w_11 hp => ?_) (fun _ _ h => h.elim)
    obtain ⟨rfl, rfl⟩ := hp
    refine z_weq (w' := [zH, zO _ [zr _ _, zr _ _, zr _ _, zr _ _, zr _ _, zi _, zi _, zr _ _, zr _ _], zH, zO _ [zr _ _, zi _, zi _, zi _], zAi 0 24 _, zH, zH, zH, zH, zH, zH, zH, zH, zH, zH, zH, zH, zH, zH, zH, zH, zH, zO _ [zi _, zi _, zr _ _], zAi 0 24 _, zAi 0 (prs n f).length _]) rfl ?_
    refine z_seq (S' := zi _ :: _) rfl ?_
    refine z_iload F dX1_left_14 rfl ?_
    refine z_iconst F (-1) dX1_left_16 rfl ?_
    refine z_icmp_ne F (tgt := 24) dX1_left_17 (by decide) (fun c_17 => ?_) (fun c_17 => ?_)
    · refine z_iconst F (nI 1) dX1_left_24 rfl ?_
      refine z_iload F dX1_left_25 rfl ?_
      refine z_ishlB F dX1_left_27 ?_
      refine z_iconst F (-1) dX1_left_28 rfl ?_
      refine z_ixor F dX1_left_29 ?_
      refine z_iand F dX1_left_30 ?_
      refine z_iload F dX1_left_31 rfl ?_
      refine z_iconst F (-1) dX1_left_33 rfl ?_
      refine z_icmp_ne F (tgt := 41) dX1_left_34 (by decide) (fun c_34 => ?_) (fun c_34 => ?_)
      · exact absurd rfl c_34
      · refine z_iconst F (nI 0) dX1_left_37 rfl ?_
        refine z_goto F (tgt := 45) dX1_left_38 (by decide) ?_
        refine z_iconst F (-1) dX1_left_45 rfl ?_
        refine z_ixor F dX1_left_46 ?_
        refine z_iand F dX1_left_47 ?_
        refine z_ieq (bo_none _) ?_
        refine z_callV F (c_farthest n (nI d) f (allB n &&& (b1 i ^^^ (-1))) _ _ _ _ hn (fun k hk1 hk2 => by rw [b_and, Bool.and_eq_true] at hk2; exact al_lt hn k hk2.1)) 2 rfl (lw_V q823 q824 q825 q110 q826) (by decide +kernel) ⟨Nat.le_of_ble_eq_true rfl, Nat.le_of_ble_eq_true rfl⟩ ⟨by omega, by omega⟩ [0, 3, 4, 22, 23] 25 ⟨rfl, rfl, rfl, ⟨Or.inl rfl, Or.inr rfl, Or.inr rfl, Or.inr rfl, Or.inr rfl, trivial⟩⟩ (fun h => nomatch h) (Nat.le_of_ble_eq_true rfl) ⟨⟨Or.inr trivial, Or.inr rfl, Or.inr trivial, Or.inl rfl, Or.inl rfl, Or.inr trivial, Or.inr trivial, Or.inr trivial, Or.inr trivial, Or.inr trivial, Or.inr trivial, Or.inr trivial, Or.inr trivial, Or.inr trivial, Or.inr trivial, Or.inr trivial, Or.inr trivial, Or.inr trivial, Or.inr trivial, Or.inr trivial, Or.inr trivial, Or.inr trivial, Or.inl rfl, Or.inl rfl, Or.inr trivial, trivial⟩, rfl, rfl, rfl, Nat.le_of_ble_eq_true rfl⟩ rfl zC2 rfl rfl dX1_left_48 (fun r_48 w_48 hp => ?_) (fun _ _ h => h.elim)
        obtain ⟨rfl, sn1, g1, sm1, D1, rfl⟩ := hp
        refine z_weq (w' := [zH, zO _ [zr _ _, zr _ _, zr _ _, zr _ _, zr _ _, zi _, zi _, zr _ _, zr _ _], zH, zO _ [zr _ _, zi _, zi _, zi _], zAi 0 24 _, zH, zH, zH, zH, zH, zH, zH, zH, zH, zH, zH, zH, zH, zH, zH, zH, zH, zO _ [zi _, zi _, zr _ _], zAi 0 24 _, zAi 0 (prs n f).length _]) rfl ?_
        refine z_seq (S' := zi _ :: _) rfl ?_
        exact z_iret F E rfl dX1_left_51 (by omega) (by omega) (⟨by rw [ev], sn1, g1, sm1, D1, rfl⟩)
    · exact absurd c_17 (nI_ne (by omega))
theorem c_xleft11 (t : Nat) (fp sn0 g0 sm0 : Int32) (D : Nat → Int32) (n d kind : Nat) (f : Nat → Int32) (i j : Nat) (hi : i < flN kind n f) (hj : j < flN kind n f) (h : nok n d f) (hk : kind < 2) : zCtr yX1_left cX1_left 7 (some .int) 4 0 0 [zr 1 0, zr 22 0, zr 24 0, zi (nI kind), zi (nI i), zi (nI j)] (xBR t fp sn0 g0 sm0 D n d f (prs n f).length (rowA (prs n f) (fun _ => 0))) (fun r w => r = some (zi (nI (flV n f kind i j))) ∧ ∃ sn g sm D, w = xBR t fp sn g sm D n d f (prs n f).length (rowA (prs n f) (fun _ => 0))) zNx := by
  refine z_start (by decide) [some (zr 1 0), some (zr 22 0), some (zr 24 0), some (zi (nI kind)), some (zi (nI i)), some (zi (nI j)), none] rfl (fun _ => Nat.le_of_ble_eq_true rfl) (fun _ => rfl) (fun X F E hno hin => ?_)
  have hn := h.n24
  have h96 := prs_96 h
  have hal : ∀ i, i < 32 → bt (allB n) i = true → i < n := fun i _ q => al_lt hn i q
  have hln : kind = 0 → i < (prs n f).length := fun e => by
    unfold flN at hi; rw [if_pos e] at hi; exact hi
  have hkn : kind = 1 → i < n := fun e => by
    unfold flN at hi; rw [if_neg (by omega)] at hi; exact hi
  have hi96 : i < 97 := by
    rcases (show kind = 0 ∨ kind = 1 by omega) with e | e
    · have := hln e; omega
    · have := hkn e; omega
  have hlnj : kind = 0 → j < (prs n f).length := fun e => by
    unfold flN at hj; rw [if_pos e] at hj; exact hj
  have hknj : kind = 1 → j < n := fun e => by
    unfold flN at hj; rw [if_neg (by omega)] at hj; exact hj
  have hj96 : j < 97 := by
    rcases (show kind = 0 ∨ kind = 1 by omega) with e | e
    · have := hlnj e; omega
    · have := hknj e; omega
  refine z_iload_n F dX1_left_0 rfl ?_
  refine z_iconst F (nI 1) dX1_left_1 rfl ?_
  refine z_icmp_neN F (by omega) (by omega) (tgt := 52) dX1_left_2 (by decide) (fun c_2 => ?_) (fun c_2 => ?_)
  · obtain ⟨p1, p2, p3⟩ := prs_at (hln (by omega))
    have p4 : bt (f (lb (prs n f) i)) (la (prs n f) i) = true := by rw [← h.sym (by omega) p2]; exact p3
    obtain ⟨r1, r2, r3⟩ := prs_at (hlnj (by omega))
    have r4 : bt (f (lb (prs n f) j)) (la (prs n f) j) = true := by rw [← h.sym (by omega) r2]; exact r3
    have ev : flV n f kind i j = cfar n (ptp f (prs n f) i j) (allB n) := if_neg (by omega)
    have hr : jn (jn (pt (pt f (la (prs n f) i) (lb (prs n f) i)) (la (prs n f) j) (lb (prs n f) j)) (la (prs n f) i) (lb (prs n f) i)) (la (prs n f) j) (lb (prs n f) j) = f := jj_pp (by omega) (by omega) (by omega) (by omega) p3 p4 r3 r4
    refine z_aload_n F dX1_left_52 rfl ?_
    refine z_aload_n F dX1_left_53 rfl ?_
    refine z_iload F dX1_left_54 rfl ?_
    refine z_iconstB F true dX1_left_56 rfl ?_
    refine z_callS F (c_xfallT n d f i h (hln (by omega)) f true) 4 rfl (lw_S q1075 q1076 q109 q1077) (by decide +kernel) ⟨Nat.le_of_ble_eq_true rfl, Nat.le_of_ble_eq_true rfl⟩ ⟨by omega, by omega⟩ [0, 22, 23, 24] 25 ⟨rfl, rfl, rfl, ⟨Or.inl rfl, Or.inr rfl, Or.inr rfl, Or.inr rfl, trivial⟩⟩ (fun h => nomatch h) (Nat.le_of_ble_eq_true rfl) ⟨⟨Or.inr trivial, Or.inr rfl, Or.inr trivial, Or.inr rfl, Or.inr trivial, Or.inr trivial, Or.inr trivial, Or.inr trivial, Or.inr trivial, Or.inr trivial, Or.inr trivial, Or.inr trivial, Or.inr trivial, Or.inr trivial, Or.inr trivial, Or.inr trivial, Or.inr trivial, Or.inr trivial, Or.inr trivial, Or.inr trivial, Or.inr trivial, Or.inr trivial, Or.inl rfl, Or.inl rfl, Or.inl rfl, trivial⟩, rfl, rfl, rfl, Nat.le_of_ble_eq_true rfl⟩ rfl rfl dX1_left_57 (fun r_57 w_57 hp => ?_) (fun _ _ h => h.elim)
    obtain ⟨rfl, rfl⟩ := hp
    rw [if_pos rfl]
    refine z_weq (w' := [zH, zO _ [zr _ _, zr _ _, zr _ _, zr _ _, zr _ _, zi _, zi _, zr _ _, zr _ _], zH, zO _ [zr _ _, zi _, zi _, zi _], zAi 0 24 _, zH, zH, zH, zH, zH, zH, zH, zH, zH, zH, zH, zH, zH, zH, zH, zH, zH, zO _ [zi _, zi _, zr _ _], zAi 0 24 _, zAi 0 (prs n f).length _]) rfl ?_
    refine z_seq (S' := []) rfl ?_
    refine z_aload_n F dX1_left_60 rfl ?_
    refine z_aload_n F dX1_left_61 rfl ?_
    refine z_iload F dX1_left_62 rfl ?_
    refine z_iconstB F true dX1_left_64 rfl ?_
    refine z_callS F (c_xfallT n d f j h (hlnj (by omega)) (pt f (la (prs n f) i) (lb (prs n f) i)) true) 4 rfl (lw_S q1075 q1076 q109 q1077) (by decide +kernel) ⟨Nat.le_of_ble_eq_true rfl, Nat.le_of_ble_eq_true rfl⟩ ⟨by omega, by omega⟩ [0, 22, 23, 24] 25 ⟨rfl, rfl, rfl, ⟨Or.inl rfl, Or.inr rfl, Or.inr rfl, Or.inr rfl, trivial⟩⟩ (fun h => nomatch h) (Nat.le_of_ble_eq_true rfl) ⟨⟨Or.inr trivial, Or.inr rfl, Or.inr trivial, Or.inr rfl, Or.inr trivial, Or.inr trivial, Or.inr trivial, Or.inr trivial, Or.inr trivial, Or.inr trivial, Or.inr trivial, Or.inr trivial, Or.inr trivial, Or.inr trivial, Or.inr trivial, Or.inr trivial, Or.inr trivial, Or.inr trivial, Or.inr trivial, Or.inr trivial, Or.inr trivial, Or.inr trivial, Or.inl rfl, Or.inl rfl, Or.inl rfl, trivial⟩, rfl, rfl, rfl, Nat.le_of_ble_eq_true rfl⟩ rfl rfl dX1_left_65 (fun r_65 w_65 hp => ?_) (fun _ _ h => h.elim)
    obtain ⟨rfl, rfl⟩ := hp
    rw [if_pos rfl]
    refine z_weq (w' := [zH, zO _ [zr _ _, zr _ _, zr _ _, zr _ _, zr _ _, zi _, zi _, zr _ _, zr _ _], zH, zO _ [zr _ _, zi _, zi _, zi _], zAi 0 24 _, zH, zH, zH, zH, zH, zH, zH, zH, zH, zH, zH, zH, zH, zH, zH, zH, zH, zO _ [zi _, zi _, zr _ _], zAi 0 24 _, zAi 0 (prs n f).length _]) rfl ?_
    refine z_seq (S' := []) rfl ?_
    refine z_aload_n F dX1_left_68 rfl ?_
    refine z_get F zC1 (f := 2) rfl (Nat.le_of_ble_eq_true rfl) q316 rfl dX1_left_69 ?_
    refine z_aload_n F dX1_left_72 rfl ?_
    refine z_aload_n F dX1_left_73 rfl ?_
    refine z_callV F (c_all n (nI d) hn) 0 rfl (lw_V q822 q800 q801 q116 q802) (by decide +kernel) ⟨Nat.le_of_ble_eq_true rfl, Nat.le_of_ble_eq_true rfl⟩ ⟨by omega, by omega⟩ [0, 22, 23] 25 ⟨rfl, rfl, rfl, ⟨Or.inl rfl, Or.inr rfl, Or.inl rfl, trivial⟩⟩ (fun h => nomatch h) (Nat.le_of_ble_eq_true rfl) ⟨⟨Or.inr trivial, Or.inr rfl, Or.inr trivial, Or.inr rfl, Or.inr trivial, Or.inr trivial, Or.inr trivial, Or.inr trivial, Or.inr trivial, Or.inr trivial, Or.inr trivial, Or.inr trivial, Or.inr trivial, Or.inr trivial, Or.inr trivial, Or.inr trivial, Or.inr trivial, Or.inr trivial, Or.inr trivial, Or.inr trivial, Or.inr trivial, Or.inr trivial, Or.inl rfl, Or.inr trivial, Or.inr trivial, trivial⟩, rfl, rfl, rfl, Nat.le_of_ble_eq_true rfl⟩ rfl zC5 rfl rfl dX1_left_74 (fun r_74 w_74 hp => ?_) (fun _ _ h => h.elim)
    obtain ⟨rfl, rfl⟩ := hp
    refine z_weq (w' := [zH, zO _ [zr _ _, zr _ _, zr _ _, zr _ _, zr _ _, zi _, zi _, zr _ _, zr _ _], zH, zO _ [zr _ _, zi _, zi _, zi _], zAi 0 24 _, zH, zH, zH, zH, zH, zH, zH, zH, zH, zH, zH, zH, zH, zH, zH, zH, zH, zO _ [zi _, zi _, zr _ _], zAi 0 24 _, zAi 0 (prs n f).length _]) rfl ?_
    refine z_seq (S' := zi _ :: _) rfl ?_
    refine z_callV F (c_farthest n (nI d) (ptp f (prs n f) i j) (allB n) _ _ _ _ hn hal) 2 rfl (lw_V q823 q824 q825 q110 q826) (by decide +kernel) ⟨Nat.le_of_ble_eq_true rfl, Nat.le_of_ble_eq_true rfl⟩ ⟨by omega, by omega⟩ [0, 3, 4, 22, 23] 25 ⟨rfl, rfl, rfl, ⟨Or.inl rfl, Or.inr rfl, Or.inr rfl, Or.inr rfl, Or.inr rfl, trivial⟩⟩ (fun h => nomatch h) (Nat.le_of_ble_eq_true rfl) ⟨⟨Or.inr trivial, Or.inr rfl, Or.inr trivial, Or.inl rfl, Or.inl rfl, Or.inr trivial, Or.inr trivial, Or.inr trivial, Or.inr trivial, Or.inr trivial, Or.inr trivial, Or.inr trivial, Or.inr trivial, Or.inr trivial, Or.inr trivial, Or.inr trivial, Or.inr trivial, Or.inr trivial, Or.inr trivial, Or.inr trivial, Or.inr trivial, Or.inr trivial, Or.inl rfl, Or.inl rfl, Or.inr trivial, trivial⟩, rfl, rfl, rfl, Nat.le_of_ble_eq_true rfl⟩ rfl zC2 rfl rfl dX1_left_77 (fun r_77 w_77 hp => ?_) (fun _ _ h => h.elim)
    obtain ⟨rfl, sn1, g1, sm1, D1, rfl⟩ := hp
    refine z_weq (w' := [zH, zO _ [zr _ _, zr _ _, zr _ _, zr _ _, zr _ _, zi _, zi _, zr _ _, zr _ _], zH, zO _ [zr _ _, zi _, zi _, zi _], zAi 0 24 _, zH, zH, zH, zH, zH, zH, zH, zH, zH, zH, zH, zH, zH, zH, zH, zH, zH, zO _ [zi _, zi _, zr _ _], zAi 0 24 _, zAi 0 (prs n f).length _]) rfl ?_
    refine z_seq (S' := zi _ :: _) rfl ?_
    refine z_istore F dX1_left_80 (Nat.le_of_ble_eq_true rfl) ?_
    refine z_leq (L' := [_, _, _, _, _, _, _]) rfl ?_
    refine z_aload_n F dX1_left_82 rfl ?_
    refine z_aload_n F dX1_left_83 rfl ?_
    refine z_iload F dX1_left_84 rfl ?_
    refine z_iconstB F false dX1_left_86 rfl ?_
    refine z_callS F (c_xfallT n d f i h (hln (by omega)) (ptp f (prs n f) i j) false) 4 rfl (lw_S q1075 q1076 q109 q1077) (by decide +kernel) ⟨Nat.le_of_ble_eq_true rfl, Nat.le_of_ble_eq_true rfl⟩ ⟨by omega, by omega⟩ [0, 22, 23, 24] 25 ⟨rfl, rfl, rfl, ⟨Or.inl rfl, Or.inr rfl, Or.inr rfl, Or.inr rfl, trivial⟩⟩ (fun h => nomatch h) (Nat.le_of_ble_eq_true rfl) ⟨⟨Or.inr trivial, Or.inr rfl, Or.inr trivial, Or.inr rfl, Or.inr trivial, Or.inr trivial, Or.inr trivial, Or.inr trivial, Or.inr trivial, Or.inr trivial, Or.inr trivial, Or.inr trivial, Or.inr trivial, Or.inr trivial, Or.inr trivial, Or.inr trivial, Or.inr trivial, Or.inr trivial, Or.inr trivial, Or.inr trivial, Or.inr trivial, Or.inr trivial, Or.inl rfl, Or.inl rfl, Or.inl rfl, trivial⟩, rfl, rfl, rfl, Nat.le_of_ble_eq_true rfl⟩ rfl rfl dX1_left_87 (fun r_87 w_87 hp => ?_) (fun _ _ h => h.elim)
    obtain ⟨rfl, rfl⟩ := hp
    rw [if_neg (by decide)]
    refine z_weq (w' := [zH, zO _ [zr _ _, zr _ _, zr _ _, zr _ _, zr _ _, zi _, zi _, zr _ _, zr _ _], zH, zO _ [zr _ _, zi _, zi _, zi _], zAi 0 24 _, zH, zH, zH, zH, zH, zH, zH, zH, zH, zH, zH, zH, zH, zH, zH, zH, zH, zO _ [zi _, zi _, zr _ _], zAi 0 24 _, zAi 0 (prs n f).length _]) rfl ?_
    refine z_seq (S' := []) rfl ?_
    refine z_aload_n F dX1_left_90 rfl ?_
    refine z_aload_n F dX1_left_91 rfl ?_
    refine z_iload F dX1_left_92 rfl ?_
    refine z_iconstB F false dX1_left_94 rfl ?_
    refine z_callS F (c_xfallT n d f j h (hlnj (by omega)) (jn (ptp f (prs n f) i j) (la (prs n f) i) (lb (prs n f) i)) false) 4 rfl (lw_S q1075 q1076 q109 q1077) (by decide +kernel) ⟨Nat.le_of_ble_eq_true rfl, Nat.le_of_ble_eq_true rfl⟩ ⟨by omega, by omega⟩ [0, 22, 23, 24] 25 ⟨rfl, rfl, rfl, ⟨Or.inl rfl, Or.inr rfl, Or.inr rfl, Or.inr rfl, trivial⟩⟩ (fun h => nomatch h) (Nat.le_of_ble_eq_true rfl) ⟨⟨Or.inr trivial, Or.inr rfl, Or.inr trivial, Or.inr rfl, Or.inr trivial, Or.inr trivial, Or.inr trivial, Or.inr trivial, Or.inr trivial, Or.inr trivial, Or.inr trivial, Or.inr trivial, Or.inr trivial, Or.inr trivial, Or.inr trivial, Or.inr trivial, Or.inr trivial, Or.inr trivial, Or.inr trivial, Or.inr trivial, Or.inr trivial, Or.inr trivial, Or.inl rfl, Or.inl rfl, Or.inl rfl, trivial⟩, rfl, rfl, rfl, Nat.le_of_ble_eq_true rfl⟩ rfl rfl dX1_left_95 (fun r_95 w_95 hp => ?_) (fun _ _ h => h.elim)
    obtain ⟨rfl, rfl⟩ := hp
    rw [if_neg (by decide), show jn (jn (ptp f (prs n f) i j) (la (prs n f) i) (lb (prs n f) i)) (la (prs n f) j) (lb (prs n f) j) = f from hr]
    refine z_weq (w' := [zH, zO _ [zr _ _, zr _ _, zr _ _, zr _ _, zr _ _, zi _, zi _, zr _ _, zr _ _], zH, zO _ [zr _ _, zi _, zi _, zi _], zAi 0 24 _, zH, zH, zH, zH, zH, zH, zH, zH, zH, zH, zH, zH, zH, zH, zH, zH, zH, zO _ [zi _, zi _, zr _ _], zAi 0 24 _, zAi 0 (prs n f).length _]) rfl ?_
    refine z_seq (S' := []) rfl ?_
    refine z_iload F dX1_left_98 rfl ?_
    exact z_iret F E rfl dX1_left_100 (by omega) (by omega) (⟨by rw [ev], _, _, _, _, rfl⟩)
  · have hin := hkn (by omega)
    have hjn := hknj (by omega)
    have ev : flV n f kind i j = cfar n f (stp n i j) := if_pos (by omega)
    refine z_aload_n F dX1_left_5 rfl ?_
    refine z_get F zC1 (f := 2) rfl (Nat.le_of_ble_eq_true rfl) q316 rfl dX1_left_6 ?_
    refine z_aload_n F dX1_left_9 rfl ?_
    refine z_aload_n F dX1_left_10 rfl ?_
    refine z_callV F (c_all n (nI d) hn) 0 rfl (lw_V q822 q800 q801 q116 q802) (by decide +kernel) ⟨Nat.le_of_ble_eq_true rfl, Nat.le_of_ble_eq_true rfl⟩ ⟨by omega, by omega⟩ [0, 22, 23] 25 ⟨rfl, rfl, rfl, ⟨Or.inl rfl, Or.inr rfl, Or.inl rfl, trivial⟩⟩ (fun h => nomatch h) (Nat.le_of_ble_eq_true rfl) ⟨⟨Or.inr trivial, Or.inr rfl, Or.inr trivial, Or.inr rfl, Or.inr trivial, Or.inr trivial, Or.inr trivial, Or.inr trivial, Or.inr trivial, Or.inr trivial, Or.inr trivial, Or.inr trivial, Or.inr trivial, Or.inr trivial, Or.inr trivial, Or.inr trivial, Or.inr trivial, Or.inr trivial, Or.inr trivial, Or.inr trivial, Or.inr trivial, Or.inr trivial, Or.inl rfl, Or.inr trivial, Or.inr trivial, trivial⟩, rfl, rfl, rfl, Nat.le_of_ble_eq_true rfl⟩ rfl zC5 rfl rfl dX1_left_11 (fun r_11 w_11 hp => ?_) (fun _ _ h => h.elim)
    obtain ⟨rfl, rfl⟩ := hp
    refine z_weq (w' := [zH, zO _ [zr _ _, zr _ _, zr _ _, zr _ _, zr _ _, zi _, zi _, zr _ _, zr _ _], zH, zO _ [zr _ _, zi _, zi _, zi _], zAi 0 24 _, zH, zH, zH, zH, zH, zH, zH, zH, zH, zH, zH, zH, zH, zH, zH, zH, zH, zO _ [zi _, zi _, zr _ _], zAi 0 24 _, zAi 0 (prs n f).length _]) rfl ?_
    refine z_seq (S' := zi _ :: _) rfl ?_
    refine z_iload F dX1_left_14 rfl ?_
    refine z_iconst F (-1) dX1_left_16 rfl ?_
    refine z_icmp_ne F (tgt := 24) dX1_left_17 (by decide) (fun c_17 => ?_) (fun c_17 => ?_)
    · refine z_iconst F (nI 1) dX1_left_24 rfl ?_
      refine z_iload F dX1_left_25 rfl ?_
      refine z_ishlB F dX1_left_27 ?_
      refine z_iconst F (-1) dX1_left_28 rfl ?_
      refine z_ixor F dX1_left_29 ?_
      refine z_iand F dX1_left_30 ?_
      refine z_iload F dX1_left_31 rfl ?_
      refine z_iconst F (-1) dX1_left_33 rfl ?_
      refine z_icmp_ne F (tgt := 41) dX1_left_34 (by decide) (fun c_34 => ?_) (fun c_34 => ?_)
      · refine z_iconst F (nI 1) dX1_left_41 rfl ?_
        refine z_iload F dX1_left_42 rfl ?_
        refine z_ishlB F dX1_left_44 ?_
        refine z_iconst F (-1) dX1_left_45 rfl ?_
        refine z_ixor F dX1_left_46 ?_
        refine z_iand F dX1_left_47 ?_
        refine z_callV F (c_farthest n (nI d) f (stp n i j) _ _ _ _ hn (fun k _ hk2 => stp_in hn (by omega) (by omega) k hk2)) 2 rfl (lw_V q823 q824 q825 q110 q826) (by decide +kernel) ⟨Nat.le_of_ble_eq_true rfl, Nat.le_of_ble_eq_true rfl⟩ ⟨by omega, by omega⟩ [0, 3, 4, 22, 23] 25 ⟨rfl, rfl, rfl, ⟨Or.inl rfl, Or.inr rfl, Or.inr rfl, Or.inr rfl, Or.inr rfl, trivial⟩⟩ (fun h => nomatch h) (Nat.le_of_ble_eq_true rfl) ⟨⟨Or.inr trivial, Or.inr rfl, Or.inr trivial, Or.inl rfl, Or.inl rfl, Or.inr trivial, Or.inr trivial, Or.inr trivial, Or.inr trivial, Or.inr trivial, Or.inr trivial, Or.inr trivial, Or.inr trivial, Or.inr trivial, Or.inr trivial, Or.inr trivial, Or.inr trivial, Or.inr trivial, Or.inr trivial, Or.inr trivial, Or.inr trivial, Or.inr trivial, Or.inl rfl, Or.inl rfl, Or.inr trivial, trivial⟩, rfl, rfl, rfl, Nat.le_of_ble_eq_true rfl⟩ rfl zC2 rfl rfl dX1_left_48 (fun r_48 w_48 hp => ?_) (fun _ _ h => h.elim)
        obtain ⟨rfl, sn1, g1, sm1, D1, rfl⟩ := hp
        refine z_weq (w' := [zH, zO _ [zr _ _, zr _ _, zr _ _, zr _ _, zr _ _, zi _, zi _, zr _ _, zr _ _], zH, zO _ [zr _ _, zi _, zi _, zi _], zAi 0 24 _, zH, zH, zH, zH, zH, zH, zH, zH, zH, zH, zH, zH, zH, zH, zH, zH, zH, zO _ [zi _, zi _, zr _ _], zAi 0 24 _, zAi 0 (prs n f).length _]) rfl ?_
        refine z_seq (S' := zi _ :: _) rfl ?_
        exact z_iret F E rfl dX1_left_51 (by omega) (by omega) (⟨by rw [ev], sn1, g1, sm1, D1, rfl⟩)
      · exact absurd c_34 (nI_ne (by omega))
    · exact absurd c_17 (nI_ne (by omega))
end C9yq
end
section
/-! falls: WiredNets' operation -/
section C9yr
abbrev xFa (P : zPt) (t : Nat) (fp sn0 g0 sm0 : Int32) (D : Nat → Int32) (e9 e10 : zE) : List zE := [zPl (pR P) P, xO t fp, zH, eFl 4 sn0 g0 sm0, zAi 0 24 D, zH, zH, zH, zH, e9, e10, zH, zH, zH, zH, zH, zH, zH, zH, zH, zH, zH]
abbrev xFf (P : zPt) (t : Nat) (fp sn0 g0 sm0 : Int32) (D : Nat → Int32) (e9 e10 : zE) (j n d : Nat) (f : Nat → Int32) : List zE := [zPl (zput (pR P) j (zr 22 0)) (zput P j none), xO t fp, zH, eFl 4 sn0 g0 sm0, zAi 0 24 D, zH, zH, zH, zH, e9, e10, zH, zH, zH, zH, zH, zH, zH, zH, zH, zH, zH, eNet 23 (nI n) (nI d), zAi 0 24 f, zAi 0 (prs n f).length (rowA (prs n f) (fun _ => 0))]
theorem neg_lt (v : Nat) (h : v < 2 ^ 31) : (-1 : Int32) < nI v := Int32.not_le.mp fun z => nI_pos h (Int32.lt_of_le_of_lt z (by decide))
theorem c_pfalls_A (Dg : va_G) (P : zPt) (t : Nat) (fp sn0 g0 sm0 : Int32) (Df0 : Nat → Int32) (m0 : Int32) (j n d kind many : Nat) (f : Nat → Int32) (hj : j < 8) (h : nok n d f) (hP : P j = some (nI n, nI d, f)) (hk : kind < 2) (hm : many < 3) : zCtrD Dg yX1_falls cX1_falls 13 (some .int) 8 8 160 [zr 1 0, zi (nI j), zi (nI kind), zi (nI many)] (xFa P t fp sn0 g0 sm0 Df0 (eLs m0 0 (zq (Dg.2 1001 1))) zH) (fun r w => ∃ sn g sm Df1, (few many kind n f ∧ r = some (zi (-1)) ∧ w = xFa P t fp sn g sm Df1 (eLs m0 0 (zq (Dg.2 1001 1))) zH) ∨ (¬ few many kind n f ∧ ∃ b, flO many kind n f = some b ∧ r = some (zi (nI b.1)) ∧ ((many = 0 ∧ ∃ m1, w = xFa P t fp sn g sm Df1 (eLs m1 0 (zq (Dg.2 1001 1))) zH) ∨ (1 ≤ many ∧ ∃ m1 g1, w = xFa P t fp sn g sm Df1 (eLs m1 many (zr 25 0)) zH ++ [zH, zH, zH, zAv 10 g1] ∧ g1 0 = .ref (Dg.2 1000 (b.2.1 + 128)) ∧ (many = 2 → g1 1 = .ref (Dg.2 1000 (b.2.2 + 128))))))) zNx := by
  refine z_startD (by decide) [some (zr 1 0), some (zi (nI j)), some (zi (nI kind)), some (zi (nI many)), none, none, none, none, none, none, none, none, none] rfl (fun _ => Nat.le_of_ble_eq_true rfl) (fun _ => rfl) (fun X hD F E hno hin => ?_)
  subst hD
  have h1 := h.n1
  have h24 := h.n24
  have h96 := prs_96 h
  have hNN : flN kind n f ≤ 96 := by
    unfold flN
    split
    · exact h96
    · omega
  have e0 : many = 0 → ¬ few many kind n f → ∀ (v : Nat) (sn g sm : Int32) (Df : Nat → Int32), flO many kind n f = some (v, 0, 0) → Z X [some (zr 1 0), none, none, none, none, none, none, some (zi (nI v)), some (zi (-1)), some (zi (-1)), none, none, none] [] (xFf P t fp sn g sm Df (eLs m0 0 (zq (X.2.2.1.2 1001 1))) zH j n d f) 4 118 191 := by
    intro em hnf v sn g sm Df ho
    refine z_aload_n F dX1_falls_191 rfl ?_
    refine z_get F zC1 (f := 4) rfl (Nat.le_of_ble_eq_true rfl) q318 rfl dX1_falls_192 ?_
    refine z_callF F (c_Jclear0 _ m0) 0 rfl (lw_F q1079 q1085 q1083 q114 q1087) (zF0 F) (by decide +kernel) ⟨Nat.le_of_ble_eq_true rfl, Nat.le_of_ble_eq_true rfl⟩ ⟨by omega, by omega⟩ [0, 9] 25 ⟨rfl, rfl, rfl, ⟨Or.inl rfl, Or.inr rfl, trivial⟩⟩ (fun h => nomatch h) (Nat.le_of_ble_eq_true rfl) ⟨⟨Or.inr (by first | exact ⟨rfl, pR_B _ (by decide)⟩ | exact ⟨rfl, uR_B (by decide) (by decide)⟩), Or.inr rfl, Or.inr trivial, Or.inr rfl, Or.inr trivial, Or.inr trivial, Or.inr trivial, Or.inr trivial, Or.inr trivial, Or.inl rfl, Or.inr trivial, Or.inr trivial, Or.inr trivial, Or.inr trivial, Or.inr trivial, Or.inr trivial, Or.inr trivial, Or.inr trivial, Or.inr trivial, Or.inr trivial, Or.inr trivial, Or.inr trivial, Or.inr rfl, Or.inr trivial, Or.inr trivial, trivial⟩, rfl, rfl, rfl, Nat.le_of_ble_eq_true rfl⟩ rfl rfl rfl dX1_falls_195 (fun r_195 w_195 hp => ?_) (fun _ _ h => h.elim)
    obtain ⟨rfl, rfl⟩ := hp
    refine z_weq (w' := [zPl _ _, zO _ [zr _ _, zr _ _, zr _ _, zr _ _, zr _ _, zi _, zi _, zr _ _, zr _ _], zH, zO _ [zr _ _, zi _, zi _, zi _], zAi 0 24 _, zH, zH, zH, zH, zO _ [zi _, zq _, zi _], zH, zH, zH, zH, zH, zH, zH, zH, zH, zH, zH, zH, zO _ [zi _, zi _, zr _ _], zAi 0 24 _, zAi 0 (prs n f).length _]) rfl ?_
    refine z_seq (S' := []) rfl ?_
    refine z_iload F dX1_falls_200 rfl ?_
    refine z_iconst F (-1) dX1_falls_202 rfl ?_
    refine z_icmp_eq F (tgt := 221) dX1_falls_203 (by decide) (fun c_203 => ?_) (fun c_203 => ?_)
    · refine z_iload F dX1_falls_221 rfl ?_
      refine z_iconst F (-1) dX1_falls_223 rfl ?_
      refine z_icmp_eq F (tgt := 242) dX1_falls_224 (by decide) (fun c_224 => ?_) (fun c_224 => ?_)
      · refine z_unfocus F rfl j 22 23 22 hj zput_self rfl rfl (Nat.le_of_ble_eq_true rfl) (Nat.le_of_ble_eq_true rfl) (Nat.le_of_ble_eq_true rfl) (Nat.le_of_ble_eq_true rfl) [zO _ [zr _ _, zr _ _, zr _ _, zr _ _, zr _ _, zi _, zi _, zr _ _, zr _ _], zH, zO _ [zr _ _, zi _, zi _, zi _], zAi 0 24 _, zH, zH, zH, zH, zO _ [zi _, zq _, zi _], zH, zH, zH, zH, zH, zH, zH, zH, zH, zH, zH, zH] rfl ⟨rfl, trivial, rfl, trivial, trivial, trivial, trivial, trivial, rfl, trivial, trivial, trivial, trivial, trivial, trivial, trivial, trivial, trivial, trivial, trivial, trivial, trivial⟩ uOK rfl rfl ?_
        refine z_weq (w' := zPl (pR (zput P j (some _))) (zput P j (some _)) :: _) (congrArg (fun z => z :: _) uPl2) ?_
        refine z_iload F dX1_falls_242 rfl ?_
        exact z_iret F E rfl dX1_falls_244 (by omega) (by omega) (⟨sn, g, sm, Df, Or.inr ⟨hnf, _, ho, rfl, Or.inl ⟨em, _, by rw [zput_some hP]; rfl⟩⟩⟩)
      · exact absurd rfl c_224
    · exact absurd rfl c_203
  have e1 : many = 1 → ¬ few many kind n f → ∀ (v x y : Nat) (sn g sm : Int32) (Df : Nat → Int32), flO many kind n f = some (v, x, y) → x < 97 → Z X [some (zr 1 0), none, none, none, none, none, none, some (zi (nI v)), some (zi (nI x)), some (zi (-1)), none, none, none] [] (xFf P t fp sn g sm Df (eLs m0 0 (zq (X.2.2.1.2 1001 1))) zH j n d f) 4 118 191 := by
    intro em hnf v x y sn g sm Df ho hx
    refine z_aload_n F dX1_falls_191 rfl ?_
    refine z_get F zC1 (f := 4) rfl (Nat.le_of_ble_eq_true rfl) q318 rfl dX1_falls_192 ?_
    refine z_callF F (c_Jclear0 _ m0) 0 rfl (lw_F q1079 q1085 q1083 q114 q1087) (zF0 F) (by decide +kernel) ⟨Nat.le_of_ble_eq_true rfl, Nat.le_of_ble_eq_true rfl⟩ ⟨by omega, by omega⟩ [0, 9] 25 ⟨rfl, rfl, rfl, ⟨Or.inl rfl, Or.inr rfl, trivial⟩⟩ (fun h => nomatch h) (Nat.le_of_ble_eq_true rfl) ⟨⟨Or.inr (by first | exact ⟨rfl, pR_B _ (by decide)⟩ | exact ⟨rfl, uR_B (by decide) (by decide)⟩), Or.inr rfl, Or.inr trivial, Or.inr rfl, Or.inr trivial, Or.inr trivial, Or.inr trivial, Or.inr trivial, Or.inr trivial, Or.inl rfl, Or.inr trivial, Or.inr trivial, Or.inr trivial, Or.inr trivial, Or.inr trivial, Or.inr trivial, Or.inr trivial, Or.inr trivial, Or.inr trivial, Or.inr trivial, Or.inr trivial, Or.inr trivial, Or.inr rfl, Or.inr trivial, Or.inr trivial, trivial⟩, rfl, rfl, rfl, Nat.le_of_ble_eq_true rfl⟩ rfl rfl rfl dX1_falls_195 (fun r_195 w_195 hp => ?_) (fun _ _ h => h.elim)
    obtain ⟨rfl, rfl⟩ := hp
    refine z_weq (w' := [zPl _ _, zO _ [zr _ _, zr _ _, zr _ _, zr _ _, zr _ _, zi _, zi _, zr _ _, zr _ _], zH, zO _ [zr _ _, zi _, zi _, zi _], zAi 0 24 _, zH, zH, zH, zH, zO _ [zi _, zq _, zi _], zH, zH, zH, zH, zH, zH, zH, zH, zH, zH, zH, zH, zO _ [zi _, zi _, zr _ _], zAi 0 24 _, zAi 0 (prs n f).length _]) rfl ?_
    refine z_seq (S' := []) rfl ?_
    refine z_iload F dX1_falls_200 rfl ?_
    refine z_iconst F (-1) dX1_falls_202 rfl ?_
    refine z_icmp_eq F (tgt := 221) dX1_falls_203 (by decide) (fun c_203 => ?_) (fun c_203 => ?_)
    · exact absurd c_203 (nI_ne (by omega))
    · refine z_aload_n F dX1_falls_206 rfl ?_
      refine z_get F zC1 (f := 4) rfl (Nat.le_of_ble_eq_true rfl) q318 rfl dX1_falls_207 ?_
      refine z_iload F dX1_falls_210 rfl ?_
      refine z_callSD F (c_JvalueOf _ x (by omega)) 1 rfl (lw_S q1088 q1089 q123 q1090) (by decide +kernel) ⟨Nat.le_of_ble_eq_true rfl, Nat.le_of_ble_eq_true rfl⟩ ⟨by omega, by omega⟩ [0] 25 ⟨rfl, rfl, rfl, ⟨Or.inl rfl, trivial⟩⟩ (fun h => nomatch h) (Nat.le_of_ble_eq_true rfl) ⟨⟨Or.inr (by first | exact ⟨rfl, pR_B _ (by decide)⟩ | exact ⟨rfl, uR_B (by decide) (by decide)⟩), Or.inr rfl, Or.inr trivial, Or.inr rfl, Or.inr trivial, Or.inr trivial, Or.inr trivial, Or.inr trivial, Or.inr trivial, Or.inr rfl, Or.inr trivial, Or.inr trivial, Or.inr trivial, Or.inr trivial, Or.inr trivial, Or.inr trivial, Or.inr trivial, Or.inr trivial, Or.inr trivial, Or.inr trivial, Or.inr trivial, Or.inr trivial, Or.inr rfl, Or.inr trivial, Or.inr trivial, trivial⟩, rfl, rfl, rfl, Nat.le_of_ble_eq_true rfl⟩ rfl rfl dX1_falls_212 (fun r_212 w_212 hp => ?_) (fun _ _ h => h.elim)
      obtain ⟨rfl, rfl⟩ := hp
      refine z_weq (w' := [zPl _ _, zO _ [zr _ _, zr _ _, zr _ _, zr _ _, zr _ _, zi _, zi _, zr _ _, zr _ _], zH, zO _ [zr _ _, zi _, zi _, zi _], zAi 0 24 _, zH, zH, zH, zH, zO _ [zi _, zq _, zi _], zH, zH, zH, zH, zH, zH, zH, zH, zH, zH, zH, zH, zO _ [zi _, zi _, zr _ _], zAi 0 24 _, zAi 0 (prs n f).length _]) rfl ?_
      refine z_seq (S' := zq _ :: _) rfl ?_
      refine z_callF F (c_JaddA _ _ (x + 128) (by omega)) 1 rfl (lw_F q1109 q1114 q1112 q114 q1116) (zF1 F) (by decide +kernel) ⟨Nat.le_of_ble_eq_true rfl, Nat.le_of_ble_eq_true rfl⟩ ⟨by omega, by omega⟩ [0, 9] 25 ⟨rfl, rfl, rfl, ⟨Or.inl rfl, Or.inr rfl, trivial⟩⟩ (fun h => nomatch h) (Nat.le_of_ble_eq_true rfl) ⟨⟨Or.inr (by first | exact ⟨rfl, pR_B _ (by decide)⟩ | exact ⟨rfl, uR_B (by decide) (by decide)⟩), Or.inr rfl, Or.inr trivial, Or.inr rfl, Or.inr trivial, Or.inr trivial, Or.inr trivial, Or.inr trivial, Or.inr trivial, Or.inl rfl, Or.inr trivial, Or.inr trivial, Or.inr trivial, Or.inr trivial, Or.inr trivial, Or.inr trivial, Or.inr trivial, Or.inr trivial, Or.inr trivial, Or.inr trivial, Or.inr trivial, Or.inr trivial, Or.inr rfl, Or.inr trivial, Or.inr trivial, trivial⟩, rfl, rfl, rfl, Nat.le_of_ble_eq_true rfl⟩ rfl rfl rfl dX1_falls_215 (fun r_215 w_215 hp => ?_) (fun _ _ h => h.elim)
      obtain ⟨rfl, rfl⟩ := hp
      refine z_weq (w' := [zPl _ _, zO _ [zr _ _, zr _ _, zr _ _, zr _ _, zr _ _, zi _, zi _, zr _ _, zr _ _], zH, zO _ [zr _ _, zi _, zi _, zi _], zAi 0 24 _, zH, zH, zH, zH, zO _ [zi _, zr _ _, zi _], zH, zH, zH, zH, zH, zH, zH, zH, zH, zH, zH, zH, zO _ [zi _, zi _, zr _ _], zAi 0 24 _, zAi 0 (prs n f).length _, zAr _ 10 _]) rfl ?_
      refine z_seq (S' := zi _ :: _) rfl ?_
      refine z_pop F dX1_falls_220 rfl ?_
      refine z_iload F dX1_falls_221 rfl ?_
      refine z_iconst F (-1) dX1_falls_223 rfl ?_
      refine z_icmp_eq F (tgt := 242) dX1_falls_224 (by decide) (fun c_224 => ?_) (fun c_224 => ?_)
      · refine z_unfocusH F rfl j 22 23 hj zput_self rfl rfl (Nat.le_of_ble_eq_true rfl) (Nat.le_of_ble_eq_true rfl) [zO _ [zr _ _, zr _ _, zr _ _, zr _ _, zr _ _, zi _, zi _, zr _ _, zr _ _], zH, zO _ [zr _ _, zi _, zi _, zi _], zAi 0 24 _, zH, zH, zH, zH, zO _ [zi _, zr _ _, zi _], zH, zH, zH, zH, zH, zH, zH, zH, zH, zH, zH, zH, zH, zH, zAi 0 (prs n f).length _, zAr _ 10 _] rfl ⟨Nat.le_of_ble_eq_true rfl, Nat.le_of_ble_eq_true rfl⟩ ⟨rfl, trivial, rfl, trivial, trivial, trivial, trivial, trivial, rfl, trivial, trivial, trivial, trivial, trivial, trivial, trivial, trivial, trivial, trivial, trivial, trivial, trivial, trivial, trivial, (fun _ => rfl), trivial⟩ uOV rfl rfl ?_
        refine z_weq (w' := zPl (pR P) P :: _) (congrArg (fun z => z :: _) (uPl3 hP)) ?_
        refine z_forget F 24 (w' := [zPl _ _, zO _ [zr _ _, zr _ _, zr _ _, zr _ _, zr _ _, zi _, zi _, zr _ _, zr _ _], zH, zO _ [zr _ _, zi _, zi _, zi _], zAi 0 24 _, zH, zH, zH, zH, zO _ [zi _, zr _ _, zi _], zH, zH, zH, zH, zH, zH, zH, zH, zH, zH, zH, zH, zH, zH, zH, zAr _ 10 _]) rfl ?_
        refine z_iload F dX1_falls_242 rfl ?_
        exact z_iret F E rfl dX1_falls_244 (by omega) (by omega) (⟨sn, g, sm, Df, Or.inr ⟨hnf, _, ho, rfl, Or.inr ⟨by omega, _, _, by rw [em]; rfl, rfl, fun z => by omega⟩⟩⟩)
      · exact absurd rfl c_224
  have e2 : many = 2 → ¬ few many kind n f → ∀ (v x y : Nat) (sn g sm : Int32) (Df : Nat → Int32), flO many kind n f = some (v, x, y) → x < 97 → y < 97 → Z X [some (zr 1 0), none, none, none, none, none, none, some (zi (nI v)), some (zi (nI x)), some (zi (nI y)), none, none, none] [] (xFf P t fp sn g sm Df (eLs m0 0 (zq (X.2.2.1.2 1001 1))) zH j n d f) 4 118 191 := by
    intro em hnf v x y sn g sm Df ho hx hy
    refine z_aload_n F dX1_falls_191 rfl ?_
    refine z_get F zC1 (f := 4) rfl (Nat.le_of_ble_eq_true rfl) q318 rfl dX1_falls_192 ?_
    refine z_callF F (c_Jclear0 _ m0) 0 rfl (lw_F q1079 q1085 q1083 q114 q1087) (zF0 F) (by decide +kernel) ⟨Nat.le_of_ble_eq_true rfl, Nat.le_of_ble_eq_true rfl⟩ ⟨by omega, by omega⟩ [0, 9] 25 ⟨rfl, rfl, rfl, ⟨Or.inl rfl, Or.inr rfl, trivial⟩⟩ (fun h => nomatch h) (Nat.le_of_ble_eq_true rfl) ⟨⟨Or.inr (by first | exact ⟨rfl, pR_B _ (by decide)⟩ | exact ⟨rfl, uR_B (by decide) (by decide)⟩), Or.inr rfl, Or.inr trivial, Or.inr rfl, Or.inr trivial, Or.inr trivial, Or.inr trivial, Or.inr trivial, Or.inr trivial, Or.inl rfl, Or.inr trivial, Or.inr trivial, Or.inr trivial, Or.inr trivial, Or.inr trivial, Or.inr trivial, Or.inr trivial, Or.inr trivial, Or.inr trivial, Or.inr trivial, Or.inr trivial, Or.inr trivial, Or.inr rfl, Or.inr trivial, Or.inr trivial, trivial⟩, rfl, rfl, rfl, Nat.le_of_ble_eq_true rfl⟩ rfl rfl rfl dX1_falls_195 (fun r_195 w_195 hp => ?_) (fun _ _ h => h.elim)
    obtain ⟨rfl, rfl⟩ := hp
    refine z_weq (w' := [zPl _ _, zO _ [zr _ _, zr _ _, zr _ _, zr _ _, zr _ _, zi _, zi _, zr _ _, zr _ _], zH, zO _ [zr _ _, zi _, zi _, zi _], zAi 0 24 _, zH, zH, zH, zH, zO _ [zi _, zq _, zi _], zH, zH, zH, zH, zH, zH, zH, zH, zH, zH, zH, zH, zO _ [zi _, zi _, zr _ _], zAi 0 24 _, zAi 0 (prs n f).length _]) rfl ?_
    refine z_seq (S' := []) rfl ?_
    refine z_iload F dX1_falls_200 rfl ?_
    refine z_iconst F (-1) dX1_falls_202 rfl ?_
    refine z_icmp_eq F (tgt := 221) dX1_falls_203 (by decide) (fun c_203 => ?_) (fun c_203 => ?_)
    · exact absurd c_203 (nI_ne (by omega))
    · refine z_aload_n F dX1_falls_206 rfl ?_
      refine z_get F zC1 (f := 4) rfl (Nat.le_of_ble_eq_true rfl) q318 rfl dX1_falls_207 ?_
      refine z_iload F dX1_falls_210 rfl ?_
      refine z_callSD F (c_JvalueOf _ x (by omega)) 1 rfl (lw_S q1088 q1089 q123 q1090) (by decide +kernel) ⟨Nat.le_of_ble_eq_true rfl, Nat.le_of_ble_eq_true rfl⟩ ⟨by omega, by omega⟩ [0] 25 ⟨rfl, rfl, rfl, ⟨Or.inl rfl, trivial⟩⟩ (fun h => nomatch h) (Nat.le_of_ble_eq_true rfl) ⟨⟨Or.inr (by first | exact ⟨rfl, pR_B _ (by decide)⟩ | exact ⟨rfl, uR_B (by decide) (by decide)⟩), Or.inr rfl, Or.inr trivial, Or.inr rfl, Or.inr trivial, Or.inr trivial, Or.inr trivial, Or.inr trivial, Or.inr trivial, Or.inr rfl, Or.inr trivial, Or.inr trivial, Or.inr trivial, Or.inr trivial, Or.inr trivial, Or.inr trivial, Or.inr trivial, Or.inr trivial, Or.inr trivial, Or.inr trivial, Or.inr trivial, Or.inr trivial, Or.inr rfl, Or.inr trivial, Or.inr trivial, trivial⟩, rfl, rfl, rfl, Nat.le_of_ble_eq_true rfl⟩ rfl rfl dX1_falls_212 (fun r_212 w_212 hp => ?_) (fun _ _ h => h.elim)
      obtain ⟨rfl, rfl⟩ := hp
      refine z_weq (w' := [zPl _ _, zO _ [zr _ _, zr _ _, zr _ _, zr _ _, zr _ _, zi _, zi _, zr _ _, zr _ _], zH, zO _ [zr _ _, zi _, zi _, zi _], zAi 0 24 _, zH, zH, zH, zH, zO _ [zi _, zq _, zi _], zH, zH, zH, zH, zH, zH, zH, zH, zH, zH, zH, zH, zO _ [zi _, zi _, zr _ _], zAi 0 24 _, zAi 0 (prs n f).length _]) rfl ?_
      refine z_seq (S' := zq _ :: _) rfl ?_
      refine z_callF F (c_JaddA _ _ (x + 128) (by omega)) 1 rfl (lw_F q1109 q1114 q1112 q114 q1116) (zF1 F) (by decide +kernel) ⟨Nat.le_of_ble_eq_true rfl, Nat.le_of_ble_eq_true rfl⟩ ⟨by omega, by omega⟩ [0, 9] 25 ⟨rfl, rfl, rfl, ⟨Or.inl rfl, Or.inr rfl, trivial⟩⟩ (fun h => nomatch h) (Nat.le_of_ble_eq_true rfl) ⟨⟨Or.inr (by first | exact ⟨rfl, pR_B _ (by decide)⟩ | exact ⟨rfl, uR_B (by decide) (by decide)⟩), Or.inr rfl, Or.inr trivial, Or.inr rfl, Or.inr trivial, Or.inr trivial, Or.inr trivial, Or.inr trivial, Or.inr trivial, Or.inl rfl, Or.inr trivial, Or.inr trivial, Or.inr trivial, Or.inr trivial, Or.inr trivial, Or.inr trivial, Or.inr trivial, Or.inr trivial, Or.inr trivial, Or.inr trivial, Or.inr trivial, Or.inr trivial, Or.inr rfl, Or.inr trivial, Or.inr trivial, trivial⟩, rfl, rfl, rfl, Nat.le_of_ble_eq_true rfl⟩ rfl rfl rfl dX1_falls_215 (fun r_215 w_215 hp => ?_) (fun _ _ h => h.elim)
      obtain ⟨rfl, rfl⟩ := hp
      refine z_weq (w' := [zPl _ _, zO _ [zr _ _, zr _ _, zr _ _, zr _ _, zr _ _, zi _, zi _, zr _ _, zr _ _], zH, zO _ [zr _ _, zi _, zi _, zi _], zAi 0 24 _, zH, zH, zH, zH, zO _ [zi _, zr _ _, zi _], zH, zH, zH, zH, zH, zH, zH, zH, zH, zH, zH, zH, zO _ [zi _, zi _, zr _ _], zAi 0 24 _, zAi 0 (prs n f).length _, zAr _ 10 _]) rfl ?_
      refine z_seq (S' := zi _ :: _) rfl ?_
      refine z_pop F dX1_falls_220 rfl ?_
      refine z_iload F dX1_falls_221 rfl ?_
      refine z_iconst F (-1) dX1_falls_223 rfl ?_
      refine z_icmp_eq F (tgt := 242) dX1_falls_224 (by decide) (fun c_224 => ?_) (fun c_224 => ?_)
      · exact absurd c_224 (nI_ne (by omega))
      · refine z_aload_n F dX1_falls_227 rfl ?_
        refine z_get F zC1 (f := 4) rfl (Nat.le_of_ble_eq_true rfl) q318 rfl dX1_falls_228 ?_
        refine z_iload F dX1_falls_231 rfl ?_
        refine z_callSD F (c_JvalueOf _ y (by omega)) 1 rfl (lw_S q1088 q1089 q123 q1090) (by decide +kernel) ⟨Nat.le_of_ble_eq_true rfl, Nat.le_of_ble_eq_true rfl⟩ ⟨by omega, by omega⟩ [0] 26 ⟨rfl, rfl, rfl, ⟨Or.inl rfl, trivial⟩⟩ (fun h => nomatch h) (Nat.le_of_ble_eq_true rfl) ⟨⟨Or.inr (by first | exact ⟨rfl, pR_B _ (by decide)⟩ | exact ⟨rfl, uR_B (by decide) (by decide)⟩), Or.inr rfl, Or.inr trivial, Or.inr rfl, Or.inr trivial, Or.inr trivial, Or.inr trivial, Or.inr trivial, Or.inr trivial, Or.inr rfl, Or.inr trivial, Or.inr trivial, Or.inr trivial, Or.inr trivial, Or.inr trivial, Or.inr trivial, Or.inr trivial, Or.inr trivial, Or.inr trivial, Or.inr trivial, Or.inr trivial, Or.inr trivial, Or.inr rfl, Or.inr trivial, Or.inr trivial, Or.inr (fun _ => rfl), trivial⟩, rfl, rfl, rfl, Nat.le_of_ble_eq_true rfl⟩ rfl rfl dX1_falls_233 (fun r_233 w_233 hp => ?_) (fun _ _ h => h.elim)
        obtain ⟨rfl, rfl⟩ := hp
        refine z_weq (w' := [zPl _ _, zO _ [zr _ _, zr _ _, zr _ _, zr _ _, zr _ _, zi _, zi _, zr _ _, zr _ _], zH, zO _ [zr _ _, zi _, zi _, zi _], zAi 0 24 _, zH, zH, zH, zH, zO _ [zi _, zr _ _, zi _], zH, zH, zH, zH, zH, zH, zH, zH, zH, zH, zH, zH, zO _ [zi _, zi _, zr _ _], zAi 0 24 _, zAi 0 (prs n f).length _, zAr _ 10 _]) rfl ?_
        refine z_seq (S' := zq _ :: _) rfl ?_
        refine z_callF F (c_JaddB _ _ 1 (y + 128) _ (by omega) (by omega)) 1 rfl (lw_F q1109 q1114 q1112 q114 q1116) (zF1 F) (by decide +kernel) ⟨Nat.le_of_ble_eq_true rfl, Nat.le_of_ble_eq_true rfl⟩ ⟨by omega, by omega⟩ [0, 9, 25] 26 ⟨rfl, rfl, rfl, ⟨Or.inl rfl, Or.inr rfl, Or.inr rfl, trivial⟩⟩ (fun h => nomatch h) (Nat.le_of_ble_eq_true rfl) ⟨⟨Or.inr (by first | exact ⟨rfl, pR_B _ (by decide)⟩ | exact ⟨rfl, uR_B (by decide) (by decide)⟩), Or.inr rfl, Or.inr trivial, Or.inr rfl, Or.inr trivial, Or.inr trivial, Or.inr trivial, Or.inr trivial, Or.inr trivial, Or.inl rfl, Or.inr trivial, Or.inr trivial, Or.inr trivial, Or.inr trivial, Or.inr trivial, Or.inr trivial, Or.inr trivial, Or.inr trivial, Or.inr trivial, Or.inr trivial, Or.inr trivial, Or.inr trivial, Or.inr rfl, Or.inr trivial, Or.inr trivial, Or.inl rfl, trivial⟩, rfl, rfl, rfl, Nat.le_of_ble_eq_true rfl⟩ rfl rfl rfl dX1_falls_236 (fun r_236 w_236 hp => ?_) (fun _ _ h => h.elim)
        obtain ⟨rfl, rfl⟩ := hp
        refine z_weq (w' := [zPl _ _, zO _ [zr _ _, zr _ _, zr _ _, zr _ _, zr _ _, zi _, zi _, zr _ _, zr _ _], zH, zO _ [zr _ _, zi _, zi _, zi _], zAi 0 24 _, zH, zH, zH, zH, zO _ [zi _, zr _ _, zi _], zH, zH, zH, zH, zH, zH, zH, zH, zH, zH, zH, zH, zO _ [zi _, zi _, zr _ _], zAi 0 24 _, zAi 0 (prs n f).length _, zAr _ 10 _]) rfl ?_
        refine z_seq (S' := zi _ :: _) rfl ?_
        refine z_pop F dX1_falls_241 rfl ?_
        refine z_unfocusH F rfl j 22 23 hj zput_self rfl rfl (Nat.le_of_ble_eq_true rfl) (Nat.le_of_ble_eq_true rfl) [zO _ [zr _ _, zr _ _, zr _ _, zr _ _, zr _ _, zi _, zi _, zr _ _, zr _ _], zH, zO _ [zr _ _, zi _, zi _, zi _], zAi 0 24 _, zH, zH, zH, zH, zO _ [zi _, zr _ _, zi _], zH, zH, zH, zH, zH, zH, zH, zH, zH, zH, zH, zH, zH, zH, zAi 0 (prs n f).length _, zAr _ 10 _] rfl ⟨Nat.le_of_ble_eq_true rfl, Nat.le_of_ble_eq_true rfl⟩ ⟨rfl, trivial, rfl, trivial, trivial, trivial, trivial, trivial, rfl, trivial, trivial, trivial, trivial, trivial, trivial, trivial, trivial, trivial, trivial, trivial, trivial, trivial, trivial, trivial, (fun _ => rfl), trivial⟩ uOV rfl rfl ?_
        refine z_weq (w' := zPl (pR P) P :: _) (congrArg (fun z => z :: _) (uPl3 hP)) ?_
        refine z_forget F 24 (w' := [zPl _ _, zO _ [zr _ _, zr _ _, zr _ _, zr _ _, zr _ _, zi _, zi _, zr _ _, zr _ _], zH, zO _ [zr _ _, zi _, zi _, zi _], zAi 0 24 _, zH, zH, zH, zH, zO _ [zi _, zr _ _, zi _], zH, zH, zH, zH, zH, zH, zH, zH, zH, zH, zH, zH, zH, zH, zH, zAr _ 10 _]) rfl ?_
        refine z_iload F dX1_falls_242 rfl ?_
        exact z_iret F E rfl dX1_falls_244 (by omega) (by omega) (⟨sn, g, sm, Df, Or.inr ⟨hnf, _, ho, rfl, Or.inr ⟨by omega, _, _, by rw [em]; rfl, rfl, fun _ => rfl⟩⟩⟩)
  have z0 : many = 0 → ¬ few many kind n f → ∀ (sn g sm : Int32) (Df : Nat → Int32), Z X [some (zr 1 0), none, some (zi (nI kind)), some (zi (nI many)), some (zr 22 0), some (zr 24 0), some (zi (nI (flN kind n f))), some (zi (-1)), some (zi (-1)), some (zi (-1)), some (zi (-1)), none, none] [] (xFf P t fp sn g sm Df (eLs m0 0 (zq (X.2.2.1.2 1001 1))) zH j n d f) 4 118 96 := by
    intro em hnf sn g sm Df
    have ho : flO many kind n f = some (cfar n f (allB n), 0, 0) := if_pos em
    have hcf := cfar_le n f (allB n)
    have ex : ∀ (sn g sm : Int32) (Df : Nat → Int32), Z X [some (zr 1 0), none, some (zi (nI kind)), some (zi (nI many)), some (zr 22 0), some (zr 24 0), some (zi (nI (flN kind n f))), some (zi (nI (cfar n f (allB n)))), some (zi (-1)), some (zi (-1)), some (zi (-1)), some (zi (nI 0)), none] [] (xFf P t fp sn g sm Df (eLs m0 0 (zq (X.2.2.1.2 1001 1))) zH j n d f) 4 118 126 := by
      intro sn g sm Df
      refine z_iload F dX1_falls_126 rfl ?_
      refine z_iload_n F dX1_falls_128 rfl ?_
      refine z_iconst F (nI 1) dX1_falls_129 rfl ?_
      refine z_icmp_leN F (by omega) (by omega) (tgt := 138) dX1_falls_130 (by decide) (fun c_130 => ?_) (fun c_130 => ?_)
      · refine z_iconst F (nI 0) dX1_falls_138 rfl ?_
        refine z_icmp_geN F (by omega) (by omega) (tgt := 185) dX1_falls_139 (by decide) (fun c_139 => ?_) (fun c_139 => ?_)
        · refine z_iinc F (nI 0) dX1_falls_185 rfl (rfl) ?_
          refine z_leq (L' := [_, _, _, _, _, _, _, _, _, _, _, _, _]) rfl ?_
          refine z_goto F (tgt := 96) dX1_falls_188 (by decide) ?_
          refine z_iload F dX1_falls_96 rfl ?_
          refine z_iload_n F dX1_falls_98 rfl ?_
          refine z_if_leN F (by omega) (tgt := 107) dX1_falls_99 (by decide) (fun c_99 => ?_) (fun c_99 => ?_)
          · refine z_iconst F (nI 0) dX1_falls_107 rfl ?_
            refine z_icmp_ge F (tgt := 191) dX1_falls_108 (by decide) (fun c_108 => ?_) (fun c_108 => ?_)
            · refine z_loc _ ?_ (e0 em hnf _ sn g sm Df ho)
              exact ⟨rfl, rfl, rfl, rfl, trivial⟩
            · exact absurd (Int32.le_refl _) c_108
          · exact absurd c_99 (by omega)
        · exact absurd c_139 (by omega)
      · exact absurd c_130 (by omega)
    refine z_iload F dX1_falls_96 rfl ?_
    refine z_iload_n F dX1_falls_98 rfl ?_
    refine z_if_leN F (by omega) (tgt := 107) dX1_falls_99 (by decide) (fun c_99 => ?_) (fun c_99 => ?_)
    · refine z_iconst F (nI 0) dX1_falls_107 rfl ?_
      refine z_icmp_ge F (tgt := 191) dX1_falls_108 (by decide) (fun c_108 => ?_) (fun c_108 => ?_)
      · exact absurd c_108 (by decide)
      · refine z_iload_n F dX1_falls_111 rfl ?_
        refine z_iconst F (nI 1) dX1_falls_112 rfl ?_
        refine z_icmp_leN F (by omega) (by omega) (tgt := 123) dX1_falls_113 (by decide) (fun c_113 => ?_) (fun c_113 => ?_)
        · refine z_iconst F (-1) dX1_falls_123 rfl ?_
          refine z_istore F dX1_falls_124 (Nat.le_of_ble_eq_true rfl) ?_
          refine z_leq (L' := [_, _, _, _, _, _, _, _, _, _, _, _, _]) rfl ?_
          refine z_iload F dX1_falls_126 rfl ?_
          refine z_iload_n F dX1_falls_128 rfl ?_
          refine z_iconst F (nI 1) dX1_falls_129 rfl ?_
          refine z_icmp_leN F (by omega) (by omega) (tgt := 138) dX1_falls_130 (by decide) (fun c_130 => ?_) (fun c_130 => ?_)
          · refine z_iconst F (nI 0) dX1_falls_138 rfl ?_
            refine z_icmp_ge F (tgt := 185) dX1_falls_139 (by decide) (fun c_139 => ?_) (fun c_139 => ?_)
            · exact absurd c_139 (by decide)
            · refine z_aload_n F dX1_falls_142 rfl ?_
              refine z_aload F dX1_falls_143 rfl ?_
              refine z_aload F dX1_falls_145 rfl ?_
              refine z_iload_n F dX1_falls_147 rfl ?_
              refine z_iload F dX1_falls_148 rfl ?_
              refine z_iload F dX1_falls_150 rfl ?_
              refine z_callV F (c_xleft00 t fp sn g sm Df n d kind f  h hk) 5 rfl (lw_V q1071 q1073 qs23 q109 q1074) (by decide +kernel) ⟨Nat.le_of_ble_eq_true rfl, Nat.le_of_ble_eq_true rfl⟩ ⟨by omega, by omega⟩ [0, 1, 2, 3, 4, 5, 6, 7, 8, 9, 10, 11, 12, 13, 14, 15, 16, 17, 18, 19, 20, 21, 22, 23, 24] 25 ⟨rfl, rfl, rfl, ⟨Or.inl rfl, Or.inr rfl, Or.inl rfl, Or.inr rfl, Or.inr rfl, Or.inl rfl, Or.inl rfl, Or.inl rfl, Or.inl rfl, Or.inl rfl, Or.inl rfl, Or.inl rfl, Or.inl rfl, Or.inl rfl, Or.inl rfl, Or.inl rfl, Or.inl rfl, Or.inl rfl, Or.inl rfl, Or.inl rfl, Or.inl rfl, Or.inl rfl, Or.inr rfl, Or.inr rfl, Or.inr rfl, trivial⟩⟩ (fun h => nomatch h) (Nat.le_of_ble_eq_true rfl) ⟨⟨Or.inr (by first | exact ⟨rfl, pR_B _ (by decide)⟩ | exact ⟨rfl, uR_B (by decide) (by decide)⟩), Or.inl rfl, Or.inr trivial, Or.inl rfl, Or.inl rfl, Or.inr trivial, Or.inr trivial, Or.inr trivial, Or.inr trivial, Or.inr rfl, Or.inr trivial, Or.inr trivial, Or.inr trivial, Or.inr trivial, Or.inr trivial, Or.inr trivial, Or.inr trivial, Or.inr trivial, Or.inr trivial, Or.inr trivial, Or.inr trivial, Or.inr trivial, Or.inl rfl, Or.inl rfl, Or.inl rfl, trivial⟩, rfl, rfl, rfl, Nat.le_of_ble_eq_true rfl⟩ rfl zC1 rfl rfl dX1_falls_152 (fun r_152 w_152 hp => ?_) (fun _ _ h => h.elim)
              obtain ⟨rfl, sn1, g1, sm1, D1, rfl⟩ := hp
              refine z_weq (w' := [zPl _ _, zO _ [zr _ _, zr _ _, zr _ _, zr _ _, zr _ _, zi _, zi _, zr _ _, zr _ _], zH, zO _ [zr _ _, zi _, zi _, zi _], zAi 0 24 _, zH, zH, zH, zH, zO _ [zi _, zq _, zi _], zH, zH, zH, zH, zH, zH, zH, zH, zH, zH, zH, zH, zO _ [zi _, zi _, zr _ _], zAi 0 24 _, zAi 0 (prs n f).length _]) rfl ?_
              refine z_seq (S' := zi _ :: _) rfl ?_
              refine z_istore F dX1_falls_155 (Nat.le_of_ble_eq_true rfl) ?_
              refine z_leq (L' := [_, _, _, _, _, _, _, _, _, _, _, _, _]) rfl ?_
              refine z_iload F dX1_falls_157 rfl ?_
              refine z_iload F dX1_falls_159 rfl ?_
              refine z_icmp_gt F (tgt := 167) dX1_falls_161 (by decide) (fun c_161 => ?_) (fun c_161 => ?_)
              · refine z_iload F dX1_falls_167 rfl ?_
                refine z_istore F dX1_falls_169 (Nat.le_of_ble_eq_true rfl) ?_
                refine z_leq (L' := [_, _, _, _, _, _, _, _, _, _, _, _, _]) rfl ?_
                refine z_iload F dX1_falls_171 rfl ?_
                refine z_istore F dX1_falls_173 (Nat.le_of_ble_eq_true rfl) ?_
                refine z_leq (L' := [_, _, _, _, _, _, _, _, _, _, _, _, _]) rfl ?_
                refine z_iload F dX1_falls_175 rfl ?_
                refine z_istore F dX1_falls_177 (Nat.le_of_ble_eq_true rfl) ?_
                refine z_leq (L' := [_, _, _, _, _, _, _, _, _, _, _, _, _]) rfl ?_
                refine z_iinc F (nI 0) dX1_falls_179 rfl (rfl) ?_
                refine z_leq (L' := [_, _, _, _, _, _, _, _, _, _, _, _, _]) rfl ?_
                refine z_goto F (tgt := 126) dX1_falls_182 (by decide) ?_
                exact ex sn1 g1 sm1 D1
              · exact absurd (neg_lt _ (by omega)) c_161
          · exact absurd c_130 (by omega)
        · exact absurd c_113 (by omega)
    · exact absurd c_99 (by omega)
  have z1 : many = 1 → ¬ few many kind n f → ∀ (u i : Nat) (sn g sm : Int32) (Df : Nat → Int32), flN kind n f - i < u → i ≤ flN kind n f → Z X [some (zr 1 0), none, some (zi (nI kind)), some (zi (nI many)), some (zr 22 0), some (zr 24 0), some (zi (nI (flN kind n f))), some (zi (fvI (fa1 (flV n f kind) i))), some (zi (faI (fa1 (flV n f kind) i))), some (zi (-1)), some (zi (nI i)), none, none] [] (xFf P t fp sn g sm Df (eLs m0 0 (zq (X.2.2.1.2 1001 1))) zH j n d f) 4 118 96 := by
    intro em hnf u
    induction u with
    | zero => intro i sn g sm Df hu; omega
    | succ u ih =>
      intro i sn g sm Df hu hi
      have hO : flO many kind n f = fa1 (flV n f kind) (flN kind n f) := by unfold flO; rw [if_neg (by omega), if_pos em]
      have hB := fa1_B (N := flN kind n f) (flV_le n f kind) i hi
      have hle := flV_le n f kind i i
      have ex : i < flN kind n f → ∀ (sn g sm : Int32) (Df : Nat → Int32), Z X [some (zr 1 0), none, some (zi (nI kind)), some (zi (nI many)), some (zr 22 0), some (zr 24 0), some (zi (nI (flN kind n f))), some (zi (fvI (fa1 (flV n f kind) (i + 1)))), some (zi (faI (fa1 (flV n f kind) (i + 1)))), some (zi (-1)), some (zi (nI i)), some (zi (nI 0)), none] [] (xFf P t fp sn g sm Df (eLs m0 0 (zq (X.2.2.1.2 1001 1))) zH j n d f) 4 118 126 := by
        intro hil sn g sm Df
        refine z_iload F dX1_falls_126 rfl ?_
        refine z_iload_n F dX1_falls_128 rfl ?_
        refine z_iconst F (nI 1) dX1_falls_129 rfl ?_
        refine z_icmp_leN F (by omega) (by omega) (tgt := 138) dX1_falls_130 (by decide) (fun c_130 => ?_) (fun c_130 => ?_)
        · refine z_iconst F (nI 0) dX1_falls_138 rfl ?_
          refine z_icmp_geN F (by omega) (by omega) (tgt := 185) dX1_falls_139 (by decide) (fun c_139 => ?_) (fun c_139 => ?_)
          · refine z_iincN F 1 dX1_falls_185 rfl rfl ?_
            refine z_leq (L' := [_, _, _, _, _, _, _, _, _, _, _, _, _]) rfl ?_
            refine z_goto F (tgt := 96) dX1_falls_188 (by decide) ?_
            refine z_loc _ ?_ (ih (i + 1) sn g sm Df (by omega) (by omega))
            exact ⟨rfl, rfl, rfl, rfl, rfl, rfl, rfl, rfl, rfl, rfl, trivial⟩
          · exact absurd c_139 (by omega)
        · exact absurd c_130 (by omega)
      refine z_iload F dX1_falls_96 rfl ?_
      refine z_iload_n F dX1_falls_98 rfl ?_
      refine z_if_leN F (by omega) (tgt := 107) dX1_falls_99 (by decide) (fun c_99 => ?_) (fun c_99 => ?_)
      · exact absurd c_99 (by omega)
      · refine z_iload F dX1_falls_102 rfl ?_
        refine z_goto F (tgt := 108) dX1_falls_104 (by decide) ?_
        refine z_icmp_geN F (by omega) (by omega) (tgt := 191) dX1_falls_108 (by decide) (fun c_108 => ?_) (fun c_108 => ?_)
        · have ei : i = flN kind n f := by omega
          subst ei
          obtain ⟨b, hb1, hb2, hb3, -⟩ := flO_s (by omega) hnf
          rw [hO] at hb1
          have hb4 := hb3 (by omega)
          rw [hb1]
          rw [hb1] at hO
          refine z_loc _ ?_ (e1 em hnf b.1 b.2.1 b.2.2 sn g sm Df hO (by omega))
          exact ⟨rfl, rfl, rfl, rfl, trivial⟩
        · refine z_iload_n F dX1_falls_111 rfl ?_
          refine z_iconst F (nI 1) dX1_falls_112 rfl ?_
          refine z_icmp_leN F (by omega) (by omega) (tgt := 123) dX1_falls_113 (by decide) (fun c_113 => ?_) (fun c_113 => ?_)
          · refine z_iconst F (-1) dX1_falls_123 rfl ?_
            refine z_istore F dX1_falls_124 (Nat.le_of_ble_eq_true rfl) ?_
            refine z_leq (L' := [_, _, _, _, _, _, _, _, _, _, _, _, _]) rfl ?_
            refine z_iload F dX1_falls_126 rfl ?_
            refine z_iload_n F dX1_falls_128 rfl ?_
            refine z_iconst F (nI 1) dX1_falls_129 rfl ?_
            refine z_icmp_leN F (by omega) (by omega) (tgt := 138) dX1_falls_130 (by decide) (fun c_130 => ?_) (fun c_130 => ?_)
            · refine z_iconst F (nI 0) dX1_falls_138 rfl ?_
              refine z_icmp_ge F (tgt := 185) dX1_falls_139 (by decide) (fun c_139 => ?_) (fun c_139 => ?_)
              · exact absurd c_139 (by decide)
              · refine z_aload_n F dX1_falls_142 rfl ?_
                refine z_aload F dX1_falls_143 rfl ?_
                refine z_aload F dX1_falls_145 rfl ?_
                refine z_iload_n F dX1_falls_147 rfl ?_
                refine z_iload F dX1_falls_148 rfl ?_
                refine z_iload F dX1_falls_150 rfl ?_
                refine z_callV F (c_xleft10 t fp sn g sm Df n d kind f i (by omega) h hk) 5 rfl (lw_V q1071 q1073 qs23 q109 q1074) (by decide +kernel) ⟨Nat.le_of_ble_eq_true rfl, Nat.le_of_ble_eq_true rfl⟩ ⟨by omega, by omega⟩ [0, 1, 2, 3, 4, 5, 6, 7, 8, 9, 10, 11, 12, 13, 14, 15, 16, 17, 18, 19, 20, 21, 22, 23, 24] 25 ⟨rfl, rfl, rfl, ⟨Or.inl rfl, Or.inr rfl, Or.inl rfl, Or.inr rfl, Or.inr rfl, Or.inl rfl, Or.inl rfl, Or.inl rfl, Or.inl rfl, Or.inl rfl, Or.inl rfl, Or.inl rfl, Or.inl rfl, Or.inl rfl, Or.inl rfl, Or.inl rfl, Or.inl rfl, Or.inl rfl, Or.inl rfl, Or.inl rfl, Or.inl rfl, Or.inl rfl, Or.inr rfl, Or.inr rfl, Or.inr rfl, trivial⟩⟩ (fun h => nomatch h) (Nat.le_of_ble_eq_true rfl) ⟨⟨Or.inr (by first | exact ⟨rfl, pR_B _ (by decide)⟩ | exact ⟨rfl, uR_B (by decide) (by decide)⟩), Or.inl rfl, Or.inr trivial, Or.inl rfl, Or.inl rfl, Or.inr trivial, Or.inr trivial, Or.inr trivial, Or.inr trivial, Or.inr rfl, Or.inr trivial, Or.inr trivial, Or.inr trivial, Or.inr trivial, Or.inr trivial, Or.inr trivial, Or.inr trivial, Or.inr trivial, Or.inr trivial, Or.inr trivial, Or.inr trivial, Or.inr trivial, Or.inl rfl, Or.inl rfl, Or.inl rfl, trivial⟩, rfl, rfl, rfl, Nat.le_of_ble_eq_true rfl⟩ rfl zC1 rfl rfl dX1_falls_152 (fun r_152 w_152 hp => ?_) (fun _ _ h => h.elim)
                obtain ⟨rfl, sn1, g1, sm1, D1, rfl⟩ := hp
                refine z_weq (w' := [zPl _ _, zO _ [zr _ _, zr _ _, zr _ _, zr _ _, zr _ _, zi _, zi _, zr _ _, zr _ _], zH, zO _ [zr _ _, zi _, zi _, zi _], zAi 0 24 _, zH, zH, zH, zH, zO _ [zi _, zq _, zi _], zH, zH, zH, zH, zH, zH, zH, zH, zH, zH, zH, zH, zO _ [zi _, zi _, zr _ _], zAi 0 24 _, zAi 0 (prs n f).length _]) rfl ?_
                refine z_seq (S' := zi _ :: _) rfl ?_
                refine z_istore F dX1_falls_155 (Nat.le_of_ble_eq_true rfl) ?_
                refine z_leq (L' := [_, _, _, _, _, _, _, _, _, _, _, _, _]) rfl ?_
                refine z_iload F dX1_falls_157 rfl ?_
                refine z_iload F dX1_falls_159 rfl ?_
                refine z_icmp_gt F (tgt := 167) dX1_falls_161 (by decide) (fun c_161 => ?_) (fun c_161 => ?_)
                · refine z_iload F dX1_falls_167 rfl ?_
                  refine z_istore F dX1_falls_169 (Nat.le_of_ble_eq_true rfl) ?_
                  refine z_leq (L' := [_, _, _, _, _, _, _, _, _, _, _, _, _]) rfl ?_
                  refine z_iload F dX1_falls_171 rfl ?_
                  refine z_istore F dX1_falls_173 (Nat.le_of_ble_eq_true rfl) ?_
                  refine z_leq (L' := [_, _, _, _, _, _, _, _, _, _, _, _, _]) rfl ?_
                  refine z_iload F dX1_falls_175 rfl ?_
                  refine z_istore F dX1_falls_177 (Nat.le_of_ble_eq_true rfl) ?_
                  refine z_leq (L' := [_, _, _, _, _, _, _, _, _, _, _, _, _]) rfl ?_
                  refine z_iinc F (nI 0) dX1_falls_179 rfl (rfl) ?_
                  refine z_leq (L' := [_, _, _, _, _, _, _, _, _, _, _, _, _]) rfl ?_
                  refine z_goto F (tgt := 126) dX1_falls_182 (by decide) ?_
                  have e9 : fa1 (flV n f kind) (i + 1) = some (flV n f kind i i, i, i) := fax_lt hB hle c_161
                  have hx := ex (by omega) sn1 g1 sm1 D1
                  rw [e9] at hx
                  exact hx
                · refine z_goto F (tgt := 179) dX1_falls_164 (by decide) ?_
                  refine z_iinc F (nI 0) dX1_falls_179 rfl (rfl) ?_
                  refine z_leq (L' := [_, _, _, _, _, _, _, _, _, _, _, _, _]) rfl ?_
                  refine z_goto F (tgt := 126) dX1_falls_182 (by decide) ?_
                  have e9 : fa1 (flV n f kind) (i + 1) = fa1 (flV n f kind) i := fax_ge hB hle c_161
                  have hx := ex (by omega) sn1 g1 sm1 D1
                  rw [e9] at hx
                  exact hx
            · exact absurd c_130 (by omega)
          · exact absurd c_113 (by omega)
  have z2 : many = 2 → ¬ few many kind n f → ∀ (u i : Nat) (sn g sm : Int32) (Df : Nat → Int32), flN kind n f - i < u → i ≤ flN kind n f → Z X [some (zr 1 0), none, some (zi (nI kind)), some (zi (nI many)), some (zr 22 0), some (zr 24 0), some (zi (nI (flN kind n f))), some (zi (fvI (fa2 (flV n f kind) (flN kind n f) i))), some (zi (faI (fa2 (flV n f kind) (flN kind n f) i))), some (zi (fbI (fa2 (flV n f kind) (flN kind n f) i))), some (zi (nI i)), none, none] [] (xFf P t fp sn g sm Df (eLs m0 0 (zq (X.2.2.1.2 1001 1))) zH j n d f) 4 118 96 := by
    intro em hnf u
    induction u with
    | zero => intro i sn g sm Df hu; omega
    | succ u ih =>
      intro i sn g sm Df hu hi
      have hO : flO many kind n f = fa2 (flV n f kind) (flN kind n f) (flN kind n f) := by unfold flO; rw [if_neg (by omega), if_neg (by omega)]
      have hB0 := fa2_B (N := flN kind n f) (flV_le n f kind) i
      have inn : i < flN kind n f → ∀ (u2 q : Nat) (sn g sm : Int32) (Df : Nat → Int32), flN kind n f - q < u2 → i < q → q ≤ flN kind n f → Z X [some (zr 1 0), none, some (zi (nI kind)), some (zi (nI many)), some (zr 22 0), some (zr 24 0), some (zi (nI (flN kind n f))), some (zi (fvI (faR (flV n f kind) i (fa2 (flV n f kind) (flN kind n f) i) q))), some (zi (faI (faR (flV n f kind) i (fa2 (flV n f kind) (flN kind n f) i) q))), some (zi (fbI (faR (flV n f kind) i (fa2 (flV n f kind) (flN kind n f) i) q))), some (zi (nI i)), some (zi (nI q)), none] [] (xFf P t fp sn g sm Df (eLs m0 0 (zq (X.2.2.1.2 1001 1))) zH j n d f) 4 118 126 := by
        intro hil u2
        induction u2 with
        | zero => intro q sn g sm Df hu2; omega
        | succ u2 ih2 =>
          intro q sn g sm Df hu2 hiq hq
          have hB := faR_B (i := i) (flV_le n f kind) hB0 q hq
          have hle := flV_le n f kind i q
          have ex : faR (flV n f kind) i (fa2 (flV n f kind) (flN kind n f) i) (q + 1) = fax (faR (flV n f kind) i (fa2 (flV n f kind) (flN kind n f) i) q) (flV n f kind i q) i q := if_pos hiq
          refine z_iload F dX1_falls_126 rfl ?_
          refine z_iload_n F dX1_falls_128 rfl ?_
          refine z_iconst F (nI 1) dX1_falls_129 rfl ?_
          refine z_icmp_leN F (by omega) (by omega) (tgt := 138) dX1_falls_130 (by decide) (fun c_130 => ?_) (fun c_130 => ?_)
          · exact absurd c_130 (by omega)
          · refine z_iload F dX1_falls_133 rfl ?_
            refine z_goto F (tgt := 139) dX1_falls_135 (by decide) ?_
            refine z_icmp_geN F (by omega) (by omega) (tgt := 185) dX1_falls_139 (by decide) (fun c_139 => ?_) (fun c_139 => ?_)
            · have eq_ : q = flN kind n f := by omega
              subst eq_
              refine z_iincN F 1 dX1_falls_185 rfl rfl ?_
              refine z_leq (L' := [_, _, _, _, _, _, _, _, _, _, _, _, _]) rfl ?_
              refine z_goto F (tgt := 96) dX1_falls_188 (by decide) ?_
              refine z_loc _ ?_ (ih (i + 1) sn g sm Df (by omega) (by omega))
              exact ⟨rfl, rfl, rfl, rfl, rfl, rfl, rfl, rfl, rfl, rfl, trivial⟩
            · refine z_aload_n F dX1_falls_142 rfl ?_
              refine z_aload F dX1_falls_143 rfl ?_
              refine z_aload F dX1_falls_145 rfl ?_
              refine z_iload_n F dX1_falls_147 rfl ?_
              refine z_iload F dX1_falls_148 rfl ?_
              refine z_iload F dX1_falls_150 rfl ?_
              refine z_callV F (c_xleft11 t fp sn g sm Df n d kind f i q (by omega) (by omega) h hk) 5 rfl (lw_V q1071 q1073 qs23 q109 q1074) (by decide +kernel) ⟨Nat.le_of_ble_eq_true rfl, Nat.le_of_ble_eq_true rfl⟩ ⟨by omega, by omega⟩ [0, 1, 2, 3, 4, 5, 6, 7, 8, 9, 10, 11, 12, 13, 14, 15, 16, 17, 18, 19, 20, 21, 22, 23, 24] 25 ⟨rfl, rfl, rfl, ⟨Or.inl rfl, Or.inr rfl, Or.inl rfl, Or.inr rfl, Or.inr rfl, Or.inl rfl, Or.inl rfl, Or.inl rfl, Or.inl rfl, Or.inl rfl, Or.inl rfl, Or.inl rfl, Or.inl rfl, Or.inl rfl, Or.inl rfl, Or.inl rfl, Or.inl rfl, Or.inl rfl, Or.inl rfl, Or.inl rfl, Or.inl rfl, Or.inl rfl, Or.inr rfl, Or.inr rfl, Or.inr rfl, trivial⟩⟩ (fun h => nomatch h) (Nat.le_of_ble_eq_true rfl) ⟨⟨Or.inr (by first | exact ⟨rfl, pR_B _ (by decide)⟩ | exact ⟨rfl, uR_B (by decide) (by decide)⟩), Or.inl rfl, Or.inr trivial, Or.inl rfl, Or.inl rfl, Or.inr trivial, Or.inr trivial, Or.inr trivial, Or.inr trivial, Or.inr rfl, Or.inr trivial, Or.inr trivial, Or.inr trivial, Or.inr trivial, Or.inr trivial, Or.inr trivial, Or.inr trivial, Or.inr trivial, Or.inr trivial, Or.inr trivial, Or.inr trivial, Or.inr trivial, Or.inl rfl, Or.inl rfl, Or.inl rfl, trivial⟩, rfl, rfl, rfl, Nat.le_of_ble_eq_true rfl⟩ rfl zC1 rfl rfl dX1_falls_152 (fun r_152 w_152 hp => ?_) (fun _ _ h => h.elim)
              obtain ⟨rfl, sn1, g1, sm1, D1, rfl⟩ := hp
              refine z_weq (w' := [zPl _ _, zO _ [zr _ _, zr _ _, zr _ _, zr _ _, zr _ _, zi _, zi _, zr _ _, zr _ _], zH, zO _ [zr _ _, zi _, zi _, zi _], zAi 0 24 _, zH, zH, zH, zH, zO _ [zi _, zq _, zi _], zH, zH, zH, zH, zH, zH, zH, zH, zH, zH, zH, zH, zO _ [zi _, zi _, zr _ _], zAi 0 24 _, zAi 0 (prs n f).length _]) rfl ?_
              refine z_seq (S' := zi _ :: _) rfl ?_
              refine z_istore F dX1_falls_155 (Nat.le_of_ble_eq_true rfl) ?_
              refine z_leq (L' := [_, _, _, _, _, _, _, _, _, _, _, _, _]) rfl ?_
              refine z_iload F dX1_falls_157 rfl ?_
              refine z_iload F dX1_falls_159 rfl ?_
              refine z_icmp_gt F (tgt := 167) dX1_falls_161 (by decide) (fun c_161 => ?_) (fun c_161 => ?_)
              · refine z_iload F dX1_falls_167 rfl ?_
                refine z_istore F dX1_falls_169 (Nat.le_of_ble_eq_true rfl) ?_
                refine z_leq (L' := [_, _, _, _, _, _, _, _, _, _, _, _, _]) rfl ?_
                refine z_iload F dX1_falls_171 rfl ?_
                refine z_istore F dX1_falls_173 (Nat.le_of_ble_eq_true rfl) ?_
                refine z_leq (L' := [_, _, _, _, _, _, _, _, _, _, _, _, _]) rfl ?_
                refine z_iload F dX1_falls_175 rfl ?_
                refine z_istore F dX1_falls_177 (Nat.le_of_ble_eq_true rfl) ?_
                refine z_leq (L' := [_, _, _, _, _, _, _, _, _, _, _, _, _]) rfl ?_
                refine z_iincN F 1 dX1_falls_179 rfl rfl ?_
                refine z_leq (L' := [_, _, _, _, _, _, _, _, _, _, _, _, _]) rfl ?_
                refine z_goto F (tgt := 126) dX1_falls_182 (by decide) ?_
                have hx := ih2 (q + 1) sn1 g1 sm1 D1 (by omega) (by omega) (by omega)
                rw [ex, fax_lt hB hle c_161] at hx
                refine z_loc _ ?_ hx
                exact ⟨rfl, rfl, rfl, rfl, rfl, rfl, rfl, rfl, rfl, rfl, rfl, trivial⟩
              · refine z_goto F (tgt := 179) dX1_falls_164 (by decide) ?_
                refine z_iincN F 1 dX1_falls_179 rfl rfl ?_
                refine z_leq (L' := [_, _, _, _, _, _, _, _, _, _, _, _, _]) rfl ?_
                refine z_goto F (tgt := 126) dX1_falls_182 (by decide) ?_
                have hx := ih2 (q + 1) sn1 g1 sm1 D1 (by omega) (by omega) (by omega)
                rw [ex, fax_ge hB hle c_161] at hx
                refine z_loc _ ?_ hx
                exact ⟨rfl, rfl, rfl, rfl, rfl, rfl, rfl, rfl, rfl, rfl, rfl, trivial⟩
      refine z_iload F dX1_falls_96 rfl ?_
      refine z_iload_n F dX1_falls_98 rfl ?_
      refine z_if_leN F (by omega) (tgt := 107) dX1_falls_99 (by decide) (fun c_99 => ?_) (fun c_99 => ?_)
      · exact absurd c_99 (by omega)
      · refine z_iload F dX1_falls_102 rfl ?_
        refine z_goto F (tgt := 108) dX1_falls_104 (by decide) ?_
        refine z_icmp_geN F (by omega) (by omega) (tgt := 191) dX1_falls_108 (by decide) (fun c_108 => ?_) (fun c_108 => ?_)
        · have ei : i = flN kind n f := by omega
          subst ei
          obtain ⟨b, hb1, hb2, hb3, hb5⟩ := flO_s (by omega) hnf
          rw [hO] at hb1
          have hb4 := hb3 (by omega)
          have hb6 := hb5 (by omega)
          rw [hb1]
          rw [hb1] at hO
          refine z_loc _ ?_ (e2 em hnf b.1 b.2.1 b.2.2 sn g sm Df hO (by omega) (by omega))
          exact ⟨rfl, rfl, rfl, rfl, trivial⟩
        · refine z_iload_n F dX1_falls_111 rfl ?_
          refine z_iconst F (nI 1) dX1_falls_112 rfl ?_
          refine z_icmp_leN F (by omega) (by omega) (tgt := 123) dX1_falls_113 (by decide) (fun c_113 => ?_) (fun c_113 => ?_)
          · exact absurd c_113 (by omega)
          · refine z_iload F dX1_falls_116 rfl ?_
            refine z_iconst F (nI 1) dX1_falls_118 rfl ?_
            refine z_iaddN F dX1_falls_119 ?_
            refine z_goto F (tgt := 124) dX1_falls_120 (by decide) ?_
            refine z_istore F dX1_falls_124 (Nat.le_of_ble_eq_true rfl) ?_
            refine z_leq (L' := [_, _, _, _, _, _, _, _, _, _, _, _, _]) rfl ?_
            have e9 := faR_ge (val := flV n f kind) (i := i) (o := fa2 (flV n f kind) (flN kind n f) i) (i + 1) (Nat.le_refl _)
            have nx := inn (by omega) (flN kind n f + 1) (i + 1) sn g sm Df (by omega) (by omega) (by omega)
            rw [e9] at nx
            exact nx
  have at55 : ∀ (v : Int32), v = nI (flN kind n f) → Z X [some (zr 1 0), none, some (zi (nI kind)), some (zi (nI many)), some (zr 22 0), some (zr 24 0), none, none, none, none, none, none, none] [zi v] (xFf P t fp sn0 g0 sm0 Df0 (eLs m0 0 (zq (X.2.2.1.2 1001 1))) zH j n d f) 4 118 55 := by
    intro v hv
    subst hv
    refine z_istore F dX1_falls_55 (Nat.le_of_ble_eq_true rfl) ?_
    refine z_leq (L' := [_, _, _, _, _, _, _, _, _, _, _, _, _]) rfl ?_
    refine z_iload_n F dX1_falls_57 rfl ?_
    refine z_iload F dX1_falls_58 rfl ?_
    refine z_icmp_gtN F (by omega) (by omega) (tgt := 74) dX1_falls_60 (by decide) (fun c_60 => ?_) (fun c_60 => ?_)
    · refine z_loc [some _, none, some _, some _, none, none, some _, none, none, none, none, none, none] ⟨rfl, rfl, rfl, rfl, trivial⟩ ?_
      refine z_unfocus F rfl j 22 23 22 hj zput_self rfl rfl (Nat.le_of_ble_eq_true rfl) (Nat.le_of_ble_eq_true rfl) (Nat.le_of_ble_eq_true rfl) (Nat.le_of_ble_eq_true rfl) [zO _ [zr _ _, zr _ _, zr _ _, zr _ _, zr _ _, zi _, zi _, zr _ _, zr _ _], zH, zO _ [zr _ _, zi _, zi _, zi _], zAi 0 24 _, zH, zH, zH, zH, zO _ [zi _, zq _, zi _], zH, zH, zH, zH, zH, zH, zH, zH, zH, zH, zH, zH] rfl ⟨rfl, trivial, rfl, trivial, trivial, trivial, trivial, trivial, rfl, trivial, trivial, trivial, trivial, trivial, trivial, trivial, trivial, trivial, trivial, trivial, trivial, trivial⟩ uOK rfl rfl ?_
      refine z_weq (w' := zPl (pR (zput P j (some _))) (zput P j (some _)) :: _) (congrArg (fun z => z :: _) uPl2) ?_
      refine z_iconst F (-1) dX1_falls_74 rfl ?_
      exact z_iret F E rfl dX1_falls_75 (by omega) (by omega) (⟨sn0, g0, sm0, Df0, Or.inl ⟨Or.inl (by omega), rfl, by rw [zput_some hP]; rfl⟩⟩)
    · refine z_iload_n F dX1_falls_63 rfl ?_
      refine z_iconst F (nI 1) dX1_falls_64 rfl ?_
      refine z_icmp_neN F (by omega) (by omega) (tgt := 76) dX1_falls_65 (by decide) (fun c_65 => ?_) (fun c_65 => ?_)
      · have hnf : ¬ few many kind n f := fun z => z.elim (fun z => by omega) (fun z => by omega)
        refine z_iconst F (-1) dX1_falls_76 rfl ?_
        refine z_istore F dX1_falls_77 (Nat.le_of_ble_eq_true rfl) ?_
        refine z_leq (L' := [_, _, _, _, _, _, _, _, _, _, _, _, _]) rfl ?_
        refine z_iconst F (-1) dX1_falls_79 rfl ?_
        refine z_istore F dX1_falls_80 (Nat.le_of_ble_eq_true rfl) ?_
        refine z_leq (L' := [_, _, _, _, _, _, _, _, _, _, _, _, _]) rfl ?_
        refine z_iconst F (-1) dX1_falls_82 rfl ?_
        refine z_istore F dX1_falls_83 (Nat.le_of_ble_eq_true rfl) ?_
        refine z_leq (L' := [_, _, _, _, _, _, _, _, _, _, _, _, _]) rfl ?_
        refine z_iload_n F dX1_falls_85 rfl ?_
        refine z_if_leN F (by omega) (tgt := 93) dX1_falls_86 (by decide) (fun c_86 => ?_) (fun c_86 => ?_)
        · refine z_iconst F (-1) dX1_falls_93 rfl ?_
          refine z_istore F dX1_falls_94 (Nat.le_of_ble_eq_true rfl) ?_
          refine z_leq (L' := [_, _, _, _, _, _, _, _, _, _, _, _, _]) rfl ?_
          exact z0 (by omega) hnf sn0 g0 sm0 Df0
        · refine z_iconst F (nI 0) dX1_falls_89 rfl ?_
          refine z_goto F (tgt := 94) dX1_falls_90 (by decide) ?_
          refine z_istore F dX1_falls_94 (Nat.le_of_ble_eq_true rfl) ?_
          refine z_leq (L' := [_, _, _, _, _, _, _, _, _, _, _, _, _]) rfl ?_
          rcases (show many = 1 ∨ many = 2 by omega) with e1_ | e2_
          · exact z1 e1_ hnf (flN kind n f + 1) 0 sn0 g0 sm0 Df0 (by omega) (by omega)
          · exact z2 e2_ hnf (flN kind n f + 1) 0 sn0 g0 sm0 Df0 (by omega) (by omega)
      · refine z_iload_n F dX1_falls_68 rfl ?_
        refine z_iload F dX1_falls_69 rfl ?_
        refine z_icmp_neN F (by omega) (by omega) (tgt := 76) dX1_falls_71 (by decide) (fun c_71 => ?_) (fun c_71 => ?_)
        · have hnf : ¬ few many kind n f := fun z => z.elim (fun z => by omega) (fun z => by rw [flN, if_neg (by omega)] at c_71; omega)
          refine z_iconst F (-1) dX1_falls_76 rfl ?_
          refine z_istore F dX1_falls_77 (Nat.le_of_ble_eq_true rfl) ?_
          refine z_leq (L' := [_, _, _, _, _, _, _, _, _, _, _, _, _]) rfl ?_
          refine z_iconst F (-1) dX1_falls_79 rfl ?_
          refine z_istore F dX1_falls_80 (Nat.le_of_ble_eq_true rfl) ?_
          refine z_leq (L' := [_, _, _, _, _, _, _, _, _, _, _, _, _]) rfl ?_
          refine z_iconst F (-1) dX1_falls_82 rfl ?_
          refine z_istore F dX1_falls_83 (Nat.le_of_ble_eq_true rfl) ?_
          refine z_leq (L' := [_, _, _, _, _, _, _, _, _, _, _, _, _]) rfl ?_
          refine z_iload_n F dX1_falls_85 rfl ?_
          refine z_if_leN F (by omega) (tgt := 93) dX1_falls_86 (by decide) (fun c_86 => ?_) (fun c_86 => ?_)
          · refine z_iconst F (-1) dX1_falls_93 rfl ?_
            refine z_istore F dX1_falls_94 (Nat.le_of_ble_eq_true rfl) ?_
            refine z_leq (L' := [_, _, _, _, _, _, _, _, _, _, _, _, _]) rfl ?_
            exact z0 (by omega) hnf sn0 g0 sm0 Df0
          · refine z_iconst F (nI 0) dX1_falls_89 rfl ?_
            refine z_goto F (tgt := 94) dX1_falls_90 (by decide) ?_
            refine z_istore F dX1_falls_94 (Nat.le_of_ble_eq_true rfl) ?_
            refine z_leq (L' := [_, _, _, _, _, _, _, _, _, _, _, _, _]) rfl ?_
            rcases (show many = 1 ∨ many = 2 by omega) with e1_ | e2_
            · exact z1 e1_ hnf (flN kind n f + 1) 0 sn0 g0 sm0 Df0 (by omega) (by omega)
            · exact z2 e2_ hnf (flN kind n f + 1) 0 sn0 g0 sm0 Df0 (by omega) (by omega)
        · refine z_loc [some _, none, some _, some _, none, none, some _, none, none, none, none, none, none] ⟨rfl, rfl, rfl, rfl, trivial⟩ ?_
          refine z_unfocus F rfl j 22 23 22 hj zput_self rfl rfl (Nat.le_of_ble_eq_true rfl) (Nat.le_of_ble_eq_true rfl) (Nat.le_of_ble_eq_true rfl) (Nat.le_of_ble_eq_true rfl) [zO _ [zr _ _, zr _ _, zr _ _, zr _ _, zr _ _, zi _, zi _, zr _ _, zr _ _], zH, zO _ [zr _ _, zi _, zi _, zi _], zAi 0 24 _, zH, zH, zH, zH, zO _ [zi _, zq _, zi _], zH, zH, zH, zH, zH, zH, zH, zH, zH, zH, zH, zH] rfl ⟨rfl, trivial, rfl, trivial, trivial, trivial, trivial, trivial, rfl, trivial, trivial, trivial, trivial, trivial, trivial, trivial, trivial, trivial, trivial, trivial, trivial, trivial⟩ uOK rfl rfl ?_
          refine z_weq (w' := zPl (pR (zput P j (some _))) (zput P j (some _)) :: _) (congrArg (fun z => z :: _) uPl2) ?_
          refine z_iconst F (-1) dX1_falls_74 rfl ?_
          exact z_iret F E rfl dX1_falls_75 (by omega) (by omega) (⟨sn0, g0, sm0, Df0, Or.inl ⟨Or.inr ⟨by omega, by rw [flN, if_neg (by omega)] at c_71; omega⟩, rfl, by rw [zput_some hP]; rfl⟩⟩)
  refine z_aload_n F dX1_falls_0 rfl ?_
  refine z_iload_n F dX1_falls_1 rfl ?_
  refine z_callV F (c_netAt_ok P t fp j hj hP) 1 rfl (lw_V q429 q431 qs0 q109 q432) (by decide +kernel) ⟨Nat.le_of_ble_eq_true rfl, Nat.le_of_ble_eq_true rfl⟩ ⟨by omega, by omega⟩ [0, 1, 2, 3, 4, 5, 6, 7, 8, 9, 10, 11, 12, 13, 14, 15, 16, 17, 18, 19, 20, 21] 22 ⟨rfl, rfl, rfl, ⟨Or.inr (congrArg some (zrnP rfl).symm), Or.inr rfl, Or.inl rfl, Or.inl rfl, Or.inl rfl, Or.inl rfl, Or.inl rfl, Or.inl rfl, Or.inl rfl, Or.inl rfl, Or.inl rfl, Or.inl rfl, Or.inl rfl, Or.inl rfl, Or.inl rfl, Or.inl rfl, Or.inl rfl, Or.inl rfl, Or.inl rfl, Or.inl rfl, Or.inl rfl, Or.inl rfl, trivial⟩⟩ (fun _ => rfl) (Nat.le_of_ble_eq_true rfl) ⟨⟨Or.inl rfl, Or.inl rfl, Or.inr trivial, Or.inr rfl, Or.inr trivial, Or.inr trivial, Or.inr trivial, Or.inr trivial, Or.inr trivial, Or.inr rfl, Or.inr trivial, Or.inr trivial, Or.inr trivial, Or.inr trivial, Or.inr trivial, Or.inr trivial, Or.inr trivial, Or.inr trivial, Or.inr trivial, Or.inr trivial, Or.inr trivial, Or.inr trivial, trivial⟩, rfl, rfl, rfl, Nat.le_of_ble_eq_true rfl⟩ rfl zC1 rfl rfl dX1_falls_2 (fun r_2 w_2 hp => ?_) (fun _ _ h => h.elim)
  obtain ⟨rfl, rfl⟩ := hp
  refine z_weq (w' := zPl (pR _) _ :: _) (congrArg (fun z => z :: _) (zrnP rfl)) ?_
  refine z_weq (w' := [zPl _ _, zO _ [zr _ _, zr _ _, zr _ _, zr _ _, zr _ _, zi _, zi _, zr _ _, zr _ _], zH, zO _ [zr _ _, zi _, zi _, zi _], zAi 0 24 _, zH, zH, zH, zH, zO _ [zi _, zq _, zi _], zH, zH, zH, zH, zH, zH, zH, zH, zH, zH, zH, zH]) rfl ?_
  refine z_seq (S' := zr _ _ :: _) rfl ?_
  refine z_astore F dX1_falls_5 (Nat.le_of_ble_eq_true rfl) ?_
  refine z_leq (L' := [_, _, _, _, _, _, _, _, _, _, _, _, _]) rfl ?_
  refine z_foc F j hj hP (N := 22) (M := 23) (L' := [_, _, _, _, some (zr 22 0), _, _, _, _, _, _, _, _]) (S' := []) rfl rfl (Nat.le_of_ble_eq_true rfl) ⟨rfl, trivial, rfl, trivial, trivial, trivial, trivial, trivial, rfl, trivial, trivial, trivial, trivial, trivial, trivial, trivial, trivial, trivial, trivial, trivial, trivial, trivial⟩ ⟨Or.inl rfl, Or.inl rfl, Or.inl rfl, Or.inl rfl, Or.inr ⟨rfl, rfl⟩, Or.inl rfl, Or.inl rfl, Or.inl rfl, Or.inl rfl, Or.inl rfl, Or.inl rfl, Or.inl rfl, Or.inl rfl, trivial⟩ rfl trivial rfl ?_
  refine z_weq (w' := [zPl _ _, zO _ [zr _ _, zr _ _, zr _ _, zr _ _, zr _ _, zi _, zi _, zr _ _, zr _ _], zH, zO _ [zr _ _, zi _, zi _, zi _], zAi 0 24 _, zH, zH, zH, zH, zO _ [zi _, zq _, zi _], zH, zH, zH, zH, zH, zH, zH, zH, zH, zH, zH, zH, zO _ [zi _, zi _, zr _ _], zAi 0 24 _]) rfl ?_
  refine z_iload_n F dX1_falls_7 rfl ?_
  refine z_if_eqN F (by omega) (tgt := 16) dX1_falls_8 (by decide) (fun c_8 => ?_) (fun c_8 => ?_)
  · refine z_iconstB F true dX1_falls_16 rfl ?_
    refine z_goto F (tgt := 21) dX1_falls_17 (by decide) ?_
    refine z_callS F (c_fnd true) 1 rfl (lw_S q433 q434 q109 q435) (by decide +kernel) ⟨Nat.le_of_ble_eq_true rfl, Nat.le_of_ble_eq_true rfl⟩ ⟨by omega, by omega⟩ [0] 24 ⟨rfl, rfl, rfl, ⟨Or.inl rfl, trivial⟩⟩ (fun h => nomatch h) (Nat.le_of_ble_eq_true rfl) ⟨⟨Or.inr (by first | exact ⟨rfl, pR_B _ (by decide)⟩ | exact ⟨rfl, uR_B (by decide) (by decide)⟩), Or.inr rfl, Or.inr trivial, Or.inr rfl, Or.inr trivial, Or.inr trivial, Or.inr trivial, Or.inr trivial, Or.inr trivial, Or.inr rfl, Or.inr trivial, Or.inr trivial, Or.inr trivial, Or.inr trivial, Or.inr trivial, Or.inr trivial, Or.inr trivial, Or.inr trivial, Or.inr trivial, Or.inr trivial, Or.inr trivial, Or.inr trivial, Or.inr rfl, Or.inr trivial, trivial⟩, rfl, rfl, rfl, Nat.le_of_ble_eq_true rfl⟩ rfl rfl dX1_falls_21 (fun r_21 w_21 hp => ?_) (fun E_ w_ hx => by obtain ⟨-, hb, -⟩ := hx; cases hb)
    obtain ⟨rfl, -, rfl⟩ := hp
    refine z_weq (w' := [zPl _ _, zO _ [zr _ _, zr _ _, zr _ _, zr _ _, zr _ _, zi _, zi _, zr _ _, zr _ _], zH, zO _ [zr _ _, zi _, zi _, zi _], zAi 0 24 _, zH, zH, zH, zH, zO _ [zi _, zq _, zi _], zH, zH, zH, zH, zH, zH, zH, zH, zH, zH, zH, zH, zO _ [zi _, zi _, zr _ _], zAi 0 24 _]) rfl ?_
    refine z_seq (S' := []) rfl ?_
    refine z_iload_n F dX1_falls_24 rfl ?_
    refine z_iconst F (nI 0) dX1_falls_25 rfl ?_
    refine z_iconst F (nI 2) dX1_falls_26 rfl ?_
    refine z_callS F (c_in (nI many) (nI 0) (nI 2)) 3 rfl (lw_S q349 q350 q109 q351) (by decide +kernel) ⟨Nat.le_of_ble_eq_true rfl, Nat.le_of_ble_eq_true rfl⟩ ⟨by omega, by omega⟩ [0] 24 ⟨rfl, rfl, rfl, ⟨Or.inl rfl, trivial⟩⟩ (fun h => nomatch h) (Nat.le_of_ble_eq_true rfl) ⟨⟨Or.inr (by first | exact ⟨rfl, pR_B _ (by decide)⟩ | exact ⟨rfl, uR_B (by decide) (by decide)⟩), Or.inr rfl, Or.inr trivial, Or.inr rfl, Or.inr trivial, Or.inr trivial, Or.inr trivial, Or.inr trivial, Or.inr trivial, Or.inr rfl, Or.inr trivial, Or.inr trivial, Or.inr trivial, Or.inr trivial, Or.inr trivial, Or.inr trivial, Or.inr trivial, Or.inr trivial, Or.inr trivial, Or.inr trivial, Or.inr trivial, Or.inr trivial, Or.inr rfl, Or.inr trivial, trivial⟩, rfl, rfl, rfl, Nat.le_of_ble_eq_true rfl⟩ rfl rfl dX1_falls_27 (fun r_27 w_27 hp => ?_) (fun _ _ h => h.elim)
    obtain ⟨rfl, rfl⟩ := hp
    refine z_weq (w' := [zPl _ _, zO _ [zr _ _, zr _ _, zr _ _, zr _ _, zr _ _, zi _, zi _, zr _ _, zr _ _], zH, zO _ [zr _ _, zi _, zi _, zi _], zAi 0 24 _, zH, zH, zH, zH, zO _ [zi _, zq _, zi _], zH, zH, zH, zH, zH, zH, zH, zH, zH, zH, zH, zH, zO _ [zi _, zi _, zr _ _], zAi 0 24 _]) rfl ?_
    refine z_seq (S' := zi _ :: _) rfl ?_
    rw [show inB (nI many) (nI 0) (nI 2) = true from inB_n (by omega) (by omega) (by omega)]
    refine z_callS F (c_rgt true) 1 rfl (lw_S q538 q539 q109 q540) (by decide +kernel) ⟨Nat.le_of_ble_eq_true rfl, Nat.le_of_ble_eq_true rfl⟩ ⟨by omega, by omega⟩ [0] 24 ⟨rfl, rfl, rfl, ⟨Or.inl rfl, trivial⟩⟩ (fun h => nomatch h) (Nat.le_of_ble_eq_true rfl) ⟨⟨Or.inr (by first | exact ⟨rfl, pR_B _ (by decide)⟩ | exact ⟨rfl, uR_B (by decide) (by decide)⟩), Or.inr rfl, Or.inr trivial, Or.inr rfl, Or.inr trivial, Or.inr trivial, Or.inr trivial, Or.inr trivial, Or.inr trivial, Or.inr rfl, Or.inr trivial, Or.inr trivial, Or.inr trivial, Or.inr trivial, Or.inr trivial, Or.inr trivial, Or.inr trivial, Or.inr trivial, Or.inr trivial, Or.inr trivial, Or.inr trivial, Or.inr trivial, Or.inr rfl, Or.inr trivial, trivial⟩, rfl, rfl, rfl, Nat.le_of_ble_eq_true rfl⟩ rfl rfl dX1_falls_30 (fun r_30 w_30 hp => ?_) (fun E_ w_ hx => by obtain ⟨-, hb, -⟩ := hx; cases hb)
    obtain ⟨rfl, -, rfl⟩ := hp
    refine z_weq (w' := [zPl _ _, zO _ [zr _ _, zr _ _, zr _ _, zr _ _, zr _ _, zi _, zi _, zr _ _, zr _ _], zH, zO _ [zr _ _, zi _, zi _, zi _], zAi 0 24 _, zH, zH, zH, zH, zO _ [zi _, zq _, zi _], zH, zH, zH, zH, zH, zH, zH, zH, zH, zH, zH, zH, zO _ [zi _, zi _, zr _ _], zAi 0 24 _]) rfl ?_
    refine z_seq (S' := []) rfl ?_
    refine z_aload F dX1_falls_33 rfl ?_
    refine z_callV F (c_row n (nI d) f h.sy (by omega)) 0 rfl (lw_V q779 q780 q781 q116 q782) (by decide +kernel) ⟨Nat.le_of_ble_eq_true rfl, Nat.le_of_ble_eq_true rfl⟩ ⟨by omega, by omega⟩ [0, 22, 23] 24 ⟨rfl, rfl, rfl, ⟨Or.inl rfl, Or.inr rfl, Or.inr rfl, trivial⟩⟩ (fun h => nomatch h) (Nat.le_of_ble_eq_true rfl) ⟨⟨Or.inr (by first | exact ⟨rfl, pR_B _ (by decide)⟩ | exact ⟨rfl, uR_B (by decide) (by decide)⟩), Or.inr rfl, Or.inr trivial, Or.inr rfl, Or.inr trivial, Or.inr trivial, Or.inr trivial, Or.inr trivial, Or.inr trivial, Or.inr rfl, Or.inr trivial, Or.inr trivial, Or.inr trivial, Or.inr trivial, Or.inr trivial, Or.inr trivial, Or.inr trivial, Or.inr trivial, Or.inr trivial, Or.inr trivial, Or.inr trivial, Or.inr trivial, Or.inl rfl, Or.inl rfl, trivial⟩, rfl, rfl, rfl, Nat.le_of_ble_eq_true rfl⟩ rfl zC5 rfl rfl dX1_falls_35 (fun r_35 w_35 hp => ?_) (fun _ _ h => h.elim)
    obtain ⟨rfl, rfl⟩ := hp
    refine z_weq (w' := [zPl _ _, zO _ [zr _ _, zr _ _, zr _ _, zr _ _, zr _ _, zi _, zi _, zr _ _, zr _ _], zH, zO _ [zr _ _, zi _, zi _, zi _], zAi 0 24 _, zH, zH, zH, zH, zO _ [zi _, zq _, zi _], zH, zH, zH, zH, zH, zH, zH, zH, zH, zH, zH, zH, zO _ [zi _, zi _, zr _ _], zAi 0 24 _, zAi 0 (prs n f).length _]) rfl ?_
    refine z_seq (S' := zr _ _ :: _) rfl ?_
    refine z_astore F dX1_falls_38 (Nat.le_of_ble_eq_true rfl) ?_
    refine z_leq (L' := [_, _, _, _, _, _, _, _, _, _, _, _, _]) rfl ?_
    refine z_iload_n F dX1_falls_40 rfl ?_
    refine z_if_neN F (by omega) (tgt := 50) dX1_falls_41 (by decide) (fun c_41 => ?_) (fun c_41 => ?_)
    · refine z_aload F dX1_falls_50 rfl ?_
      refine z_getN F zC5 (f := 0) rfl (Nat.le_of_ble_eq_true rfl) q245 rfl dX1_falls_52 ?_
      refine z_loc _ ?_ (at55 _ (by rw [flN, if_neg (by omega)]))
      exact ⟨rfl, rfl, rfl, rfl, rfl, trivial⟩
    · refine z_aload F dX1_falls_44 rfl ?_
      refine z_alenN F (fun _ => rfl) rfl dX1_falls_46 ?_
      refine z_goto F (tgt := 55) dX1_falls_47 (by decide) ?_
      refine z_loc _ ?_ (at55 _ (by rw [flN, if_pos (by omega)]))
      exact ⟨rfl, rfl, rfl, rfl, rfl, trivial⟩
  · refine z_iload_n F dX1_falls_11 rfl ?_
    refine z_iconst F (nI 1) dX1_falls_12 rfl ?_
    refine z_icmp_neN F (by omega) (by omega) (tgt := 20) dX1_falls_13 (by decide) (fun c_13 => ?_) (fun c_13 => ?_)
    · exact absurd c_13 (by omega)
    · refine z_iconstB F true dX1_falls_16 rfl ?_
      refine z_goto F (tgt := 21) dX1_falls_17 (by decide) ?_
      refine z_callS F (c_fnd true) 1 rfl (lw_S q433 q434 q109 q435) (by decide +kernel) ⟨Nat.le_of_ble_eq_true rfl, Nat.le_of_ble_eq_true rfl⟩ ⟨by omega, by omega⟩ [0] 24 ⟨rfl, rfl, rfl, ⟨Or.inl rfl, trivial⟩⟩ (fun h => nomatch h) (Nat.le_of_ble_eq_true rfl) ⟨⟨Or.inr (by first | exact ⟨rfl, pR_B _ (by decide)⟩ | exact ⟨rfl, uR_B (by decide) (by decide)⟩), Or.inr rfl, Or.inr trivial, Or.inr rfl, Or.inr trivial, Or.inr trivial, Or.inr trivial, Or.inr trivial, Or.inr trivial, Or.inr rfl, Or.inr trivial, Or.inr trivial, Or.inr trivial, Or.inr trivial, Or.inr trivial, Or.inr trivial, Or.inr trivial, Or.inr trivial, Or.inr trivial, Or.inr trivial, Or.inr trivial, Or.inr trivial, Or.inr rfl, Or.inr trivial, trivial⟩, rfl, rfl, rfl, Nat.le_of_ble_eq_true rfl⟩ rfl rfl dX1_falls_21 (fun r_21 w_21 hp => ?_) (fun E_ w_ hx => by obtain ⟨-, hb, -⟩ := hx; cases hb)
      obtain ⟨rfl, -, rfl⟩ := hp
      refine z_weq (w' := [zPl _ _, zO _ [zr _ _, zr _ _, zr _ _, zr _ _, zr _ _, zi _, zi _, zr _ _, zr _ _], zH, zO _ [zr _ _, zi _, zi _, zi _], zAi 0 24 _, zH, zH, zH, zH, zO _ [zi _, zq _, zi _], zH, zH, zH, zH, zH, zH, zH, zH, zH, zH, zH, zH, zO _ [zi _, zi _, zr _ _], zAi 0 24 _]) rfl ?_
      refine z_seq (S' := []) rfl ?_
      refine z_iload_n F dX1_falls_24 rfl ?_
      refine z_iconst F (nI 0) dX1_falls_25 rfl ?_
      refine z_iconst F (nI 2) dX1_falls_26 rfl ?_
      refine z_callS F (c_in (nI many) (nI 0) (nI 2)) 3 rfl (lw_S q349 q350 q109 q351) (by decide +kernel) ⟨Nat.le_of_ble_eq_true rfl, Nat.le_of_ble_eq_true rfl⟩ ⟨by omega, by omega⟩ [0] 24 ⟨rfl, rfl, rfl, ⟨Or.inl rfl, trivial⟩⟩ (fun h => nomatch h) (Nat.le_of_ble_eq_true rfl) ⟨⟨Or.inr (by first | exact ⟨rfl, pR_B _ (by decide)⟩ | exact ⟨rfl, uR_B (by decide) (by decide)⟩), Or.inr rfl, Or.inr trivial, Or.inr rfl, Or.inr trivial, Or.inr trivial, Or.inr trivial, Or.inr trivial, Or.inr trivial, Or.inr rfl, Or.inr trivial, Or.inr trivial, Or.inr trivial, Or.inr trivial, Or.inr trivial, Or.inr trivial, Or.inr trivial, Or.inr trivial, Or.inr trivial, Or.inr trivial, Or.inr trivial, Or.inr trivial, Or.inr rfl, Or.inr trivial, trivial⟩, rfl, rfl, rfl, Nat.le_of_ble_eq_true rfl⟩ rfl rfl dX1_falls_27 (fun r_27 w_27 hp => ?_) (fun _ _ h => h.elim)
      obtain ⟨rfl, rfl⟩ := hp
      refine z_weq (w' := [zPl _ _, zO _ [zr _ _, zr _ _, zr _ _, zr _ _, zr _ _, zi _, zi _, zr _ _, zr _ _], zH, zO _ [zr _ _, zi _, zi _, zi _], zAi 0 24 _, zH, zH, zH, zH, zO _ [zi _, zq _, zi _], zH, zH, zH, zH, zH, zH, zH, zH, zH, zH, zH, zH, zO _ [zi _, zi _, zr _ _], zAi 0 24 _]) rfl ?_
      refine z_seq (S' := zi _ :: _) rfl ?_
      rw [show inB (nI many) (nI 0) (nI 2) = true from inB_n (by omega) (by omega) (by omega)]
      refine z_callS F (c_rgt true) 1 rfl (lw_S q538 q539 q109 q540) (by decide +kernel) ⟨Nat.le_of_ble_eq_true rfl, Nat.le_of_ble_eq_true rfl⟩ ⟨by omega, by omega⟩ [0] 24 ⟨rfl, rfl, rfl, ⟨Or.inl rfl, trivial⟩⟩ (fun h => nomatch h) (Nat.le_of_ble_eq_true rfl) ⟨⟨Or.inr (by first | exact ⟨rfl, pR_B _ (by decide)⟩ | exact ⟨rfl, uR_B (by decide) (by decide)⟩), Or.inr rfl, Or.inr trivial, Or.inr rfl, Or.inr trivial, Or.inr trivial, Or.inr trivial, Or.inr trivial, Or.inr trivial, Or.inr rfl, Or.inr trivial, Or.inr trivial, Or.inr trivial, Or.inr trivial, Or.inr trivial, Or.inr trivial, Or.inr trivial, Or.inr trivial, Or.inr trivial, Or.inr trivial, Or.inr trivial, Or.inr trivial, Or.inr rfl, Or.inr trivial, trivial⟩, rfl, rfl, rfl, Nat.le_of_ble_eq_true rfl⟩ rfl rfl dX1_falls_30 (fun r_30 w_30 hp => ?_) (fun E_ w_ hx => by obtain ⟨-, hb, -⟩ := hx; cases hb)
      obtain ⟨rfl, -, rfl⟩ := hp
      refine z_weq (w' := [zPl _ _, zO _ [zr _ _, zr _ _, zr _ _, zr _ _, zr _ _, zi _, zi _, zr _ _, zr _ _], zH, zO _ [zr _ _, zi _, zi _, zi _], zAi 0 24 _, zH, zH, zH, zH, zO _ [zi _, zq _, zi _], zH, zH, zH, zH, zH, zH, zH, zH, zH, zH, zH, zH, zO _ [zi _, zi _, zr _ _], zAi 0 24 _]) rfl ?_
      refine z_seq (S' := []) rfl ?_
      refine z_aload F dX1_falls_33 rfl ?_
      refine z_callV F (c_row n (nI d) f h.sy (by omega)) 0 rfl (lw_V q779 q780 q781 q116 q782) (by decide +kernel) ⟨Nat.le_of_ble_eq_true rfl, Nat.le_of_ble_eq_true rfl⟩ ⟨by omega, by omega⟩ [0, 22, 23] 24 ⟨rfl, rfl, rfl, ⟨Or.inl rfl, Or.inr rfl, Or.inr rfl, trivial⟩⟩ (fun h => nomatch h) (Nat.le_of_ble_eq_true rfl) ⟨⟨Or.inr (by first | exact ⟨rfl, pR_B _ (by decide)⟩ | exact ⟨rfl, uR_B (by decide) (by decide)⟩), Or.inr rfl, Or.inr trivial, Or.inr rfl, Or.inr trivial, Or.inr trivial, Or.inr trivial, Or.inr trivial, Or.inr trivial, Or.inr rfl, Or.inr trivial, Or.inr trivial, Or.inr trivial, Or.inr trivial, Or.inr trivial, Or.inr trivial, Or.inr trivial, Or.inr trivial, Or.inr trivial, Or.inr trivial, Or.inr trivial, Or.inr trivial, Or.inl rfl, Or.inl rfl, trivial⟩, rfl, rfl, rfl, Nat.le_of_ble_eq_true rfl⟩ rfl zC5 rfl rfl dX1_falls_35 (fun r_35 w_35 hp => ?_) (fun _ _ h => h.elim)
      obtain ⟨rfl, rfl⟩ := hp
      refine z_weq (w' := [zPl _ _, zO _ [zr _ _, zr _ _, zr _ _, zr _ _, zr _ _, zi _, zi _, zr _ _, zr _ _], zH, zO _ [zr _ _, zi _, zi _, zi _], zAi 0 24 _, zH, zH, zH, zH, zO _ [zi _, zq _, zi _], zH, zH, zH, zH, zH, zH, zH, zH, zH, zH, zH, zH, zO _ [zi _, zi _, zr _ _], zAi 0 24 _, zAi 0 (prs n f).length _]) rfl ?_
      refine z_seq (S' := zr _ _ :: _) rfl ?_
      refine z_astore F dX1_falls_38 (Nat.le_of_ble_eq_true rfl) ?_
      refine z_leq (L' := [_, _, _, _, _, _, _, _, _, _, _, _, _]) rfl ?_
      refine z_iload_n F dX1_falls_40 rfl ?_
      refine z_if_neN F (by omega) (tgt := 50) dX1_falls_41 (by decide) (fun c_41 => ?_) (fun c_41 => ?_)
      · refine z_aload F dX1_falls_50 rfl ?_
        refine z_getN F zC5 (f := 0) rfl (Nat.le_of_ble_eq_true rfl) q245 rfl dX1_falls_52 ?_
        refine z_loc _ ?_ (at55 _ (by rw [flN, if_neg (by omega)]))
        exact ⟨rfl, rfl, rfl, rfl, rfl, trivial⟩
      · refine z_aload F dX1_falls_44 rfl ?_
        refine z_alenN F (fun _ => rfl) rfl dX1_falls_46 ?_
        refine z_goto F (tgt := 55) dX1_falls_47 (by decide) ?_
        refine z_loc _ ?_ (at55 _ (by rw [flN, if_pos (by omega)]))
        exact ⟨rfl, rfl, rfl, rfl, rfl, trivial⟩
theorem c_pfalls_B (Dg : va_G) (P : zPt) (t : Nat) (fp sn0 g0 sm0 : Int32) (Df0 : Nat → Int32) (m0 : Int32) (c0 : Nat) (ga : Nat → Value) (hc0 : c0 ≤ 10) (j n d kind many : Nat) (f : Nat → Int32) (hj : j < 8) (h : nok n d f) (hP : P j = some (nI n, nI d, f)) (hk : kind < 2) (hm : many < 3) : zCtrD Dg yX1_falls cX1_falls 13 (some .int) 8 8 160 [zr 1 0, zi (nI j), zi (nI kind), zi (nI many)] (xFa P t fp sn0 g0 sm0 Df0 (eLs m0 c0 (zr 10 0)) (zAv 10 ga)) (fun r w => ∃ sn g sm Df1, (few many kind n f ∧ r = some (zi (-1)) ∧ w = xFa P t fp sn g sm Df1 (eLs m0 c0 (zr 10 0)) (zAv 10 ga)) ∨ (¬ few many kind n f ∧ ∃ b, flO many kind n f = some b ∧ r = some (zi (nI b.1)) ∧ (∃ m1 g1, w = xFa P t fp sn g sm Df1 (eLs m1 many (zr 10 0)) (zAv 10 g1) ∧ (1 ≤ many → g1 0 = .ref (Dg.2 1000 (b.2.1 + 128))) ∧ (many = 2 → g1 1 = .ref (Dg.2 1000 (b.2.2 + 128)))))) zNx := by
  refine z_startD (by decide) [some (zr 1 0), some (zi (nI j)), some (zi (nI kind)), some (zi (nI many)), none, none, none, none, none, none, none, none, none] rfl (fun _ => Nat.le_of_ble_eq_true rfl) (fun _ => rfl) (fun X hD F E hno hin => ?_)
  subst hD
  have h1 := h.n1
  have h24 := h.n24
  have h96 := prs_96 h
  have hNN : flN kind n f ≤ 96 := by
    unfold flN
    split
    · exact h96
    · omega
  have e0 : many = 0 → ¬ few many kind n f → ∀ (v : Nat) (sn g sm : Int32) (Df : Nat → Int32), flO many kind n f = some (v, 0, 0) → Z X [some (zr 1 0), none, none, none, none, none, none, some (zi (nI v)), some (zi (-1)), some (zi (-1)), none, none, none] [] (xFf P t fp sn g sm Df (eLs m0 c0 (zr 10 0)) (zAv 10 ga) j n d f) 4 118 191 := by
    intro em hnf v sn g sm Df ho
    refine z_aload_n F dX1_falls_191 rfl ?_
    refine z_get F zC1 (f := 4) rfl (Nat.le_of_ble_eq_true rfl) q318 rfl dX1_falls_192 ?_
    refine z_callF F (c_Jclear1 _ m0 c0 ga hc0) 0 rfl (lw_F q1079 q1085 q1083 q114 q1087) (zF0 F) (by decide +kernel) ⟨Nat.le_of_ble_eq_true rfl, Nat.le_of_ble_eq_true rfl⟩ ⟨by omega, by omega⟩ [0, 9, 10] 25 ⟨rfl, rfl, rfl, ⟨Or.inl rfl, Or.inr rfl, Or.inr rfl, trivial⟩⟩ (fun h => nomatch h) (Nat.le_of_ble_eq_true rfl) ⟨⟨Or.inr (by first | exact ⟨rfl, pR_B _ (by decide)⟩ | exact ⟨rfl, uR_B (by decide) (by decide)⟩), Or.inr rfl, Or.inr trivial, Or.inr rfl, Or.inr trivial, Or.inr trivial, Or.inr trivial, Or.inr trivial, Or.inr trivial, Or.inl rfl, Or.inl rfl, Or.inr trivial, Or.inr trivial, Or.inr trivial, Or.inr trivial, Or.inr trivial, Or.inr trivial, Or.inr trivial, Or.inr trivial, Or.inr trivial, Or.inr trivial, Or.inr trivial, Or.inr rfl, Or.inr trivial, Or.inr trivial, trivial⟩, rfl, rfl, rfl, Nat.le_of_ble_eq_true rfl⟩ rfl rfl rfl dX1_falls_195 (fun r_195 w_195 hp => ?_) (fun _ _ h => h.elim)
    obtain ⟨rfl, gb, rfl⟩ := hp
    refine z_weq (w' := [zPl _ _, zO _ [zr _ _, zr _ _, zr _ _, zr _ _, zr _ _, zi _, zi _, zr _ _, zr _ _], zH, zO _ [zr _ _, zi _, zi _, zi _], zAi 0 24 _, zH, zH, zH, zH, zO _ [zi _, zr _ _, zi _], zAr _ 10 _, zH, zH, zH, zH, zH, zH, zH, zH, zH, zH, zH, zO _ [zi _, zi _, zr _ _], zAi 0 24 _, zAi 0 (prs n f).length _]) rfl ?_
    refine z_seq (S' := []) rfl ?_
    refine z_iload F dX1_falls_200 rfl ?_
    refine z_iconst F (-1) dX1_falls_202 rfl ?_
    refine z_icmp_eq F (tgt := 221) dX1_falls_203 (by decide) (fun c_203 => ?_) (fun c_203 => ?_)
    · refine z_iload F dX1_falls_221 rfl ?_
      refine z_iconst F (-1) dX1_falls_223 rfl ?_
      refine z_icmp_eq F (tgt := 242) dX1_falls_224 (by decide) (fun c_224 => ?_) (fun c_224 => ?_)
      · refine z_unfocus F rfl j 22 23 22 hj zput_self rfl rfl (Nat.le_of_ble_eq_true rfl) (Nat.le_of_ble_eq_true rfl) (Nat.le_of_ble_eq_true rfl) (Nat.le_of_ble_eq_true rfl) [zO _ [zr _ _, zr _ _, zr _ _, zr _ _, zr _ _, zi _, zi _, zr _ _, zr _ _], zH, zO _ [zr _ _, zi _, zi _, zi _], zAi 0 24 _, zH, zH, zH, zH, zO _ [zi _, zr _ _, zi _], zAr _ 10 _, zH, zH, zH, zH, zH, zH, zH, zH, zH, zH, zH] rfl ⟨rfl, trivial, rfl, trivial, trivial, trivial, trivial, trivial, rfl, (fun _ => rfl), trivial, trivial, trivial, trivial, trivial, trivial, trivial, trivial, trivial, trivial, trivial, trivial⟩ uOK rfl rfl ?_
        refine z_weq (w' := zPl (pR (zput P j (some _))) (zput P j (some _)) :: _) (congrArg (fun z => z :: _) uPl2) ?_
        refine z_iload F dX1_falls_242 rfl ?_
        exact z_iret F E rfl dX1_falls_244 (by omega) (by omega) (⟨sn, g, sm, Df, Or.inr ⟨hnf, _, ho, rfl, _, _, by rw [zput_some hP, em]; rfl, fun z => by omega, fun z => by omega⟩⟩)
      · exact absurd rfl c_224
    · exact absurd rfl c_203
  have e1 : many = 1 → ¬ few many kind n f → ∀ (v x y : Nat) (sn g sm : Int32) (Df : Nat → Int32), flO many kind n f = some (v, x, y) → x < 97 → Z X [some (zr 1 0), none, none, none, none, none, none, some (zi (nI v)), some (zi (nI x)), some (zi (-1)), none, none, none] [] (xFf P t fp sn g sm Df (eLs m0 c0 (zr 10 0)) (zAv 10 ga) j n d f) 4 118 191 := by
    intro em hnf v x y sn g sm Df ho hx
    refine z_aload_n F dX1_falls_191 rfl ?_
    refine z_get F zC1 (f := 4) rfl (Nat.le_of_ble_eq_true rfl) q318 rfl dX1_falls_192 ?_
    refine z_callF F (c_Jclear1 _ m0 c0 ga hc0) 0 rfl (lw_F q1079 q1085 q1083 q114 q1087) (zF0 F) (by decide +kernel) ⟨Nat.le_of_ble_eq_true rfl, Nat.le_of_ble_eq_true rfl⟩ ⟨by omega, by omega⟩ [0, 9, 10] 25 ⟨rfl, rfl, rfl, ⟨Or.inl rfl, Or.inr rfl, Or.inr rfl, trivial⟩⟩ (fun h => nomatch h) (Nat.le_of_ble_eq_true rfl) ⟨⟨Or.inr (by first | exact ⟨rfl, pR_B _ (by decide)⟩ | exact ⟨rfl, uR_B (by decide) (by decide)⟩), Or.inr rfl, Or.inr trivial, Or.inr rfl, Or.inr trivial, Or.inr trivial, Or.inr trivial, Or.inr trivial, Or.inr trivial, Or.inl rfl, Or.inl rfl, Or.inr trivial, Or.inr trivial, Or.inr trivial, Or.inr trivial, Or.inr trivial, Or.inr trivial, Or.inr trivial, Or.inr trivial, Or.inr trivial, Or.inr trivial, Or.inr trivial, Or.inr rfl, Or.inr trivial, Or.inr trivial, trivial⟩, rfl, rfl, rfl, Nat.le_of_ble_eq_true rfl⟩ rfl rfl rfl dX1_falls_195 (fun r_195 w_195 hp => ?_) (fun _ _ h => h.elim)
    obtain ⟨rfl, gb, rfl⟩ := hp
    refine z_weq (w' := [zPl _ _, zO _ [zr _ _, zr _ _, zr _ _, zr _ _, zr _ _, zi _, zi _, zr _ _, zr _ _], zH, zO _ [zr _ _, zi _, zi _, zi _], zAi 0 24 _, zH, zH, zH, zH, zO _ [zi _, zr _ _, zi _], zAr _ 10 _, zH, zH, zH, zH, zH, zH, zH, zH, zH, zH, zH, zO _ [zi _, zi _, zr _ _], zAi 0 24 _, zAi 0 (prs n f).length _]) rfl ?_
    refine z_seq (S' := []) rfl ?_
    refine z_iload F dX1_falls_200 rfl ?_
    refine z_iconst F (-1) dX1_falls_202 rfl ?_
    refine z_icmp_eq F (tgt := 221) dX1_falls_203 (by decide) (fun c_203 => ?_) (fun c_203 => ?_)
    · exact absurd c_203 (nI_ne (by omega))
    · refine z_aload_n F dX1_falls_206 rfl ?_
      refine z_get F zC1 (f := 4) rfl (Nat.le_of_ble_eq_true rfl) q318 rfl dX1_falls_207 ?_
      refine z_iload F dX1_falls_210 rfl ?_
      refine z_callSD F (c_JvalueOf _ x (by omega)) 1 rfl (lw_S q1088 q1089 q123 q1090) (by decide +kernel) ⟨Nat.le_of_ble_eq_true rfl, Nat.le_of_ble_eq_true rfl⟩ ⟨by omega, by omega⟩ [0] 25 ⟨rfl, rfl, rfl, ⟨Or.inl rfl, trivial⟩⟩ (fun h => nomatch h) (Nat.le_of_ble_eq_true rfl) ⟨⟨Or.inr (by first | exact ⟨rfl, pR_B _ (by decide)⟩ | exact ⟨rfl, uR_B (by decide) (by decide)⟩), Or.inr rfl, Or.inr trivial, Or.inr rfl, Or.inr trivial, Or.inr trivial, Or.inr trivial, Or.inr trivial, Or.inr trivial, Or.inr rfl, Or.inr (fun _ => rfl), Or.inr trivial, Or.inr trivial, Or.inr trivial, Or.inr trivial, Or.inr trivial, Or.inr trivial, Or.inr trivial, Or.inr trivial, Or.inr trivial, Or.inr trivial, Or.inr trivial, Or.inr rfl, Or.inr trivial, Or.inr trivial, trivial⟩, rfl, rfl, rfl, Nat.le_of_ble_eq_true rfl⟩ rfl rfl dX1_falls_212 (fun r_212 w_212 hp => ?_) (fun _ _ h => h.elim)
      obtain ⟨rfl, rfl⟩ := hp
      refine z_weq (w' := [zPl _ _, zO _ [zr _ _, zr _ _, zr _ _, zr _ _, zr _ _, zi _, zi _, zr _ _, zr _ _], zH, zO _ [zr _ _, zi _, zi _, zi _], zAi 0 24 _, zH, zH, zH, zH, zO _ [zi _, zr _ _, zi _], zAr _ 10 _, zH, zH, zH, zH, zH, zH, zH, zH, zH, zH, zH, zO _ [zi _, zi _, zr _ _], zAi 0 24 _, zAi 0 (prs n f).length _]) rfl ?_
      refine z_seq (S' := zq _ :: _) rfl ?_
      refine z_callF F (c_JaddB _ _ 0 (x + 128) gb (by omega) (by omega)) 1 rfl (lw_F q1109 q1114 q1112 q114 q1116) (zF1 F) (by decide +kernel) ⟨Nat.le_of_ble_eq_true rfl, Nat.le_of_ble_eq_true rfl⟩ ⟨by omega, by omega⟩ [0, 9, 10] 25 ⟨rfl, rfl, rfl, ⟨Or.inl rfl, Or.inr rfl, Or.inr rfl, trivial⟩⟩ (fun h => nomatch h) (Nat.le_of_ble_eq_true rfl) ⟨⟨Or.inr (by first | exact ⟨rfl, pR_B _ (by decide)⟩ | exact ⟨rfl, uR_B (by decide) (by decide)⟩), Or.inr rfl, Or.inr trivial, Or.inr rfl, Or.inr trivial, Or.inr trivial, Or.inr trivial, Or.inr trivial, Or.inr trivial, Or.inl rfl, Or.inl rfl, Or.inr trivial, Or.inr trivial, Or.inr trivial, Or.inr trivial, Or.inr trivial, Or.inr trivial, Or.inr trivial, Or.inr trivial, Or.inr trivial, Or.inr trivial, Or.inr trivial, Or.inr rfl, Or.inr trivial, Or.inr trivial, trivial⟩, rfl, rfl, rfl, Nat.le_of_ble_eq_true rfl⟩ rfl rfl rfl dX1_falls_215 (fun r_215 w_215 hp => ?_) (fun _ _ h => h.elim)
      obtain ⟨rfl, rfl⟩ := hp
      refine z_weq (w' := [zPl _ _, zO _ [zr _ _, zr _ _, zr _ _, zr _ _, zr _ _, zi _, zi _, zr _ _, zr _ _], zH, zO _ [zr _ _, zi _, zi _, zi _], zAi 0 24 _, zH, zH, zH, zH, zO _ [zi _, zr _ _, zi _], zAr _ 10 _, zH, zH, zH, zH, zH, zH, zH, zH, zH, zH, zH, zO _ [zi _, zi _, zr _ _], zAi 0 24 _, zAi 0 (prs n f).length _]) rfl ?_
      refine z_seq (S' := zi _ :: _) rfl ?_
      refine z_pop F dX1_falls_220 rfl ?_
      refine z_iload F dX1_falls_221 rfl ?_
      refine z_iconst F (-1) dX1_falls_223 rfl ?_
      refine z_icmp_eq F (tgt := 242) dX1_falls_224 (by decide) (fun c_224 => ?_) (fun c_224 => ?_)
      · refine z_unfocus F rfl j 22 23 22 hj zput_self rfl rfl (Nat.le_of_ble_eq_true rfl) (Nat.le_of_ble_eq_true rfl) (Nat.le_of_ble_eq_true rfl) (Nat.le_of_ble_eq_true rfl) [zO _ [zr _ _, zr _ _, zr _ _, zr _ _, zr _ _, zi _, zi _, zr _ _, zr _ _], zH, zO _ [zr _ _, zi _, zi _, zi _], zAi 0 24 _, zH, zH, zH, zH, zO _ [zi _, zr _ _, zi _], zAr _ 10 _, zH, zH, zH, zH, zH, zH, zH, zH, zH, zH, zH] rfl ⟨rfl, trivial, rfl, trivial, trivial, trivial, trivial, trivial, rfl, (fun _ => rfl), trivial, trivial, trivial, trivial, trivial, trivial, trivial, trivial, trivial, trivial, trivial, trivial⟩ uOK rfl rfl ?_
        refine z_weq (w' := zPl (pR (zput P j (some _))) (zput P j (some _)) :: _) (congrArg (fun z => z :: _) uPl2) ?_
        refine z_iload F dX1_falls_242 rfl ?_
        exact z_iret F E rfl dX1_falls_244 (by omega) (by omega) (⟨sn, g, sm, Df, Or.inr ⟨hnf, _, ho, rfl, _, _, by rw [zput_some hP, em]; rfl, fun _ => rfl, fun z => by omega⟩⟩)
      · exact absurd rfl c_224
  have e2 : many = 2 → ¬ few many kind n f → ∀ (v x y : Nat) (sn g sm : Int32) (Df : Nat → Int32), flO many kind n f = some (v, x, y) → x < 97 → y < 97 → Z X [some (zr 1 0), none, none, none, none, none, none, some (zi (nI v)), some (zi (nI x)), some (zi (nI y)), none, none, none] [] (xFf P t fp sn g sm Df (eLs m0 c0 (zr 10 0)) (zAv 10 ga) j n d f) 4 118 191 := by
    intro em hnf v x y sn g sm Df ho hx hy
    refine z_aload_n F dX1_falls_191 rfl ?_
    refine z_get F zC1 (f := 4) rfl (Nat.le_of_ble_eq_true rfl) q318 rfl dX1_falls_192 ?_
    refine z_callF F (c_Jclear1 _ m0 c0 ga hc0) 0 rfl (lw_F q1079 q1085 q1083 q114 q1087) (zF0 F) (by decide +kernel) ⟨Nat.le_of_ble_eq_true rfl, Nat.le_of_ble_eq_true rfl⟩ ⟨by omega, by omega⟩ [0, 9, 10] 25 ⟨rfl, rfl, rfl, ⟨Or.inl rfl, Or.inr rfl, Or.inr rfl, trivial⟩⟩ (fun h => nomatch h) (Nat.le_of_ble_eq_true rfl) ⟨⟨Or.inr (by first | exact ⟨rfl, pR_B _ (by decide)⟩ | exact ⟨rfl, uR_B (by decide) (by decide)⟩), Or.inr rfl, Or.inr trivial, Or.inr rfl, Or.inr trivial, Or.inr trivial, Or.inr trivial, Or.inr trivial, Or.inr trivial, Or.inl rfl, Or.inl rfl, Or.inr trivial, Or.inr trivial, Or.inr trivial, Or.inr trivial, Or.inr trivial, Or.inr trivial, Or.inr trivial, Or.inr trivial, Or.inr trivial, Or.inr trivial, Or.inr trivial, Or.inr rfl, Or.inr trivial, Or.inr trivial, trivial⟩, rfl, rfl, rfl, Nat.le_of_ble_eq_true rfl⟩ rfl rfl rfl dX1_falls_195 (fun r_195 w_195 hp => ?_) (fun _ _ h => h.elim)
    obtain ⟨rfl, gb, rfl⟩ := hp
    refine z_weq (w' := [zPl _ _, zO _ [zr _ _, zr _ _, zr _ _, zr _ _, zr _ _, zi _, zi _, zr _ _, zr _ _], zH, zO _ [zr _ _, zi _, zi _, zi _], zAi 0 24 _, zH, zH, zH, zH, zO _ [zi _, zr _ _, zi _], zAr _ 10 _, zH, zH, zH, zH, zH, zH, zH, zH, zH, zH, zH, zO _ [zi _, zi _, zr _ _], zAi 0 24 _, zAi 0 (prs n f).length _]) rfl ?_
    refine z_seq (S' := []) rfl ?_
    refine z_iload F dX1_falls_200 rfl ?_
    refine z_iconst F (-1) dX1_falls_202 rfl ?_
    refine z_icmp_eq F (tgt := 221) dX1_falls_203 (by decide) (fun c_203 => ?_) (fun c_203 => ?_)
    · exact absurd c_203 (nI_ne (by omega))
    · refine z_aload_n F dX1_falls_206 rfl ?_
      refine z_get F zC1 (f := 4) rfl (Nat.le_of_ble_eq_true rfl) q318 rfl dX1_falls_207 ?_
      refine z_iload F dX1_falls_210 rfl ?_
      refine z_callSD F (c_JvalueOf _ x (by omega)) 1 rfl (lw_S q1088 q1089 q123 q1090) (by decide +kernel) ⟨Nat.le_of_ble_eq_true rfl, Nat.le_of_ble_eq_true rfl⟩ ⟨by omega, by omega⟩ [0] 25 ⟨rfl, rfl, rfl, ⟨Or.inl rfl, trivial⟩⟩ (fun h => nomatch h) (Nat.le_of_ble_eq_true rfl) ⟨⟨Or.inr (by first | exact ⟨rfl, pR_B _ (by decide)⟩ | exact ⟨rfl, uR_B (by decide) (by decide)⟩), Or.inr rfl, Or.inr trivial, Or.inr rfl, Or.inr trivial, Or.inr trivial, Or.inr trivial, Or.inr trivial, Or.inr trivial, Or.inr rfl, Or.inr (fun _ => rfl), Or.inr trivial, Or.inr trivial, Or.inr trivial, Or.inr trivial, Or.inr trivial, Or.inr trivial, Or.inr trivial, Or.inr trivial, Or.inr trivial, Or.inr trivial, Or.inr trivial, Or.inr rfl, Or.inr trivial, Or.inr trivial, trivial⟩, rfl, rfl, rfl, Nat.le_of_ble_eq_true rfl⟩ rfl rfl dX1_falls_212 (fun r_212 w_212 hp => ?_) (fun _ _ h => h.elim)
      obtain ⟨rfl, rfl⟩ := hp
      refine z_weq (w' := [zPl _ _, zO _ [zr _ _, zr _ _, zr _ _, zr _ _, zr _ _, zi _, zi _, zr _ _, zr _ _], zH, zO _ [zr _ _, zi _, zi _, zi _], zAi 0 24 _, zH, zH, zH, zH, zO _ [zi _, zr _ _, zi _], zAr _ 10 _, zH, zH, zH, zH, zH, zH, zH, zH, zH, zH, zH, zO _ [zi _, zi _, zr _ _], zAi 0 24 _, zAi 0 (prs n f).length _]) rfl ?_
      refine z_seq (S' := zq _ :: _) rfl ?_
      refine z_callF F (c_JaddB _ _ 0 (x + 128) gb (by omega) (by omega)) 1 rfl (lw_F q1109 q1114 q1112 q114 q1116) (zF1 F) (by decide +kernel) ⟨Nat.le_of_ble_eq_true rfl, Nat.le_of_ble_eq_true rfl⟩ ⟨by omega, by omega⟩ [0, 9, 10] 25 ⟨rfl, rfl, rfl, ⟨Or.inl rfl, Or.inr rfl, Or.inr rfl, trivial⟩⟩ (fun h => nomatch h) (Nat.le_of_ble_eq_true rfl) ⟨⟨Or.inr (by first | exact ⟨rfl, pR_B _ (by decide)⟩ | exact ⟨rfl, uR_B (by decide) (by decide)⟩), Or.inr rfl, Or.inr trivial, Or.inr rfl, Or.inr trivial, Or.inr trivial, Or.inr trivial, Or.inr trivial, Or.inr trivial, Or.inl rfl, Or.inl rfl, Or.inr trivial, Or.inr trivial, Or.inr trivial, Or.inr trivial, Or.inr trivial, Or.inr trivial, Or.inr trivial, Or.inr trivial, Or.inr trivial, Or.inr trivial, Or.inr trivial, Or.inr rfl, Or.inr trivial, Or.inr trivial, trivial⟩, rfl, rfl, rfl, Nat.le_of_ble_eq_true rfl⟩ rfl rfl rfl dX1_falls_215 (fun r_215 w_215 hp => ?_) (fun _ _ h => h.elim)
      obtain ⟨rfl, rfl⟩ := hp
      refine z_weq (w' := [zPl _ _, zO _ [zr _ _, zr _ _, zr _ _, zr _ _, zr _ _, zi _, zi _, zr _ _, zr _ _], zH, zO _ [zr _ _, zi _, zi _, zi _], zAi 0 24 _, zH, zH, zH, zH, zO _ [zi _, zr _ _, zi _], zAr _ 10 _, zH, zH, zH, zH, zH, zH, zH, zH, zH, zH, zH, zO _ [zi _, zi _, zr _ _], zAi 0 24 _, zAi 0 (prs n f).length _]) rfl ?_
      refine z_seq (S' := zi _ :: _) rfl ?_
      refine z_pop F dX1_falls_220 rfl ?_
      refine z_iload F dX1_falls_221 rfl ?_
      refine z_iconst F (-1) dX1_falls_223 rfl ?_
      refine z_icmp_eq F (tgt := 242) dX1_falls_224 (by decide) (fun c_224 => ?_) (fun c_224 => ?_)
      · exact absurd c_224 (nI_ne (by omega))
      · refine z_aload_n F dX1_falls_227 rfl ?_
        refine z_get F zC1 (f := 4) rfl (Nat.le_of_ble_eq_true rfl) q318 rfl dX1_falls_228 ?_
        refine z_iload F dX1_falls_231 rfl ?_
        refine z_callSD F (c_JvalueOf _ y (by omega)) 1 rfl (lw_S q1088 q1089 q123 q1090) (by decide +kernel) ⟨Nat.le_of_ble_eq_true rfl, Nat.le_of_ble_eq_true rfl⟩ ⟨by omega, by omega⟩ [0] 25 ⟨rfl, rfl, rfl, ⟨Or.inl rfl, trivial⟩⟩ (fun h => nomatch h) (Nat.le_of_ble_eq_true rfl) ⟨⟨Or.inr (by first | exact ⟨rfl, pR_B _ (by decide)⟩ | exact ⟨rfl, uR_B (by decide) (by decide)⟩), Or.inr rfl, Or.inr trivial, Or.inr rfl, Or.inr trivial, Or.inr trivial, Or.inr trivial, Or.inr trivial, Or.inr trivial, Or.inr rfl, Or.inr (fun _ => rfl), Or.inr trivial, Or.inr trivial, Or.inr trivial, Or.inr trivial, Or.inr trivial, Or.inr trivial, Or.inr trivial, Or.inr trivial, Or.inr trivial, Or.inr trivial, Or.inr trivial, Or.inr rfl, Or.inr trivial, Or.inr trivial, trivial⟩, rfl, rfl, rfl, Nat.le_of_ble_eq_true rfl⟩ rfl rfl dX1_falls_233 (fun r_233 w_233 hp => ?_) (fun _ _ h => h.elim)
        obtain ⟨rfl, rfl⟩ := hp
        refine z_weq (w' := [zPl _ _, zO _ [zr _ _, zr _ _, zr _ _, zr _ _, zr _ _, zi _, zi _, zr _ _, zr _ _], zH, zO _ [zr _ _, zi _, zi _, zi _], zAi 0 24 _, zH, zH, zH, zH, zO _ [zi _, zr _ _, zi _], zAr _ 10 _, zH, zH, zH, zH, zH, zH, zH, zH, zH, zH, zH, zO _ [zi _, zi _, zr _ _], zAi 0 24 _, zAi 0 (prs n f).length _]) rfl ?_
        refine z_seq (S' := zq _ :: _) rfl ?_
        refine z_callF F (c_JaddB _ _ 1 (y + 128) _ (by omega) (by omega)) 1 rfl (lw_F q1109 q1114 q1112 q114 q1116) (zF1 F) (by decide +kernel) ⟨Nat.le_of_ble_eq_true rfl, Nat.le_of_ble_eq_true rfl⟩ ⟨by omega, by omega⟩ [0, 9, 10] 25 ⟨rfl, rfl, rfl, ⟨Or.inl rfl, Or.inr rfl, Or.inr rfl, trivial⟩⟩ (fun h => nomatch h) (Nat.le_of_ble_eq_true rfl) ⟨⟨Or.inr (by first | exact ⟨rfl, pR_B _ (by decide)⟩ | exact ⟨rfl, uR_B (by decide) (by decide)⟩), Or.inr rfl, Or.inr trivial, Or.inr rfl, Or.inr trivial, Or.inr trivial, Or.inr trivial, Or.inr trivial, Or.inr trivial, Or.inl rfl, Or.inl rfl, Or.inr trivial, Or.inr trivial, Or.inr trivial, Or.inr trivial, Or.inr trivial, Or.inr trivial, Or.inr trivial, Or.inr trivial, Or.inr trivial, Or.inr trivial, Or.inr trivial, Or.inr rfl, Or.inr trivial, Or.inr trivial, trivial⟩, rfl, rfl, rfl, Nat.le_of_ble_eq_true rfl⟩ rfl rfl rfl dX1_falls_236 (fun r_236 w_236 hp => ?_) (fun _ _ h => h.elim)
        obtain ⟨rfl, rfl⟩ := hp
        refine z_weq (w' := [zPl _ _, zO _ [zr _ _, zr _ _, zr _ _, zr _ _, zr _ _, zi _, zi _, zr _ _, zr _ _], zH, zO _ [zr _ _, zi _, zi _, zi _], zAi 0 24 _, zH, zH, zH, zH, zO _ [zi _, zr _ _, zi _], zAr _ 10 _, zH, zH, zH, zH, zH, zH, zH, zH, zH, zH, zH, zO _ [zi _, zi _, zr _ _], zAi 0 24 _, zAi 0 (prs n f).length _]) rfl ?_
        refine z_seq (S' := zi _ :: _) rfl ?_
        refine z_pop F dX1_falls_241 rfl ?_
        refine z_unfocus F rfl j 22 23 22 hj zput_self rfl rfl (Nat.le_of_ble_eq_true rfl) (Nat.le_of_ble_eq_true rfl) (Nat.le_of_ble_eq_true rfl) (Nat.le_of_ble_eq_true rfl) [zO _ [zr _ _, zr _ _, zr _ _, zr _ _, zr _ _, zi _, zi _, zr _ _, zr _ _], zH, zO _ [zr _ _, zi _, zi _, zi _], zAi 0 24 _, zH, zH, zH, zH, zO _ [zi _, zr _ _, zi _], zAr _ 10 _, zH, zH, zH, zH, zH, zH, zH, zH, zH, zH, zH] rfl ⟨rfl, trivial, rfl, trivial, trivial, trivial, trivial, trivial, rfl, (fun _ => rfl), trivial, trivial, trivial, trivial, trivial, trivial, trivial, trivial, trivial, trivial, trivial, trivial⟩ uOK rfl rfl ?_
        refine z_weq (w' := zPl (pR (zput P j (some _))) (zput P j (some _)) :: _) (congrArg (fun z => z :: _) uPl2) ?_
        refine z_iload F dX1_falls_242 rfl ?_
        exact z_iret F E rfl dX1_falls_244 (by omega) (by omega) (⟨sn, g, sm, Df, Or.inr ⟨hnf, _, ho, rfl, _, _, by rw [zput_some hP, em]; rfl, fun _ => rfl, fun _ => rfl⟩⟩)
  have z0 : many = 0 → ¬ few many kind n f → ∀ (sn g sm : Int32) (Df : Nat → Int32), Z X [some (zr 1 0), none, some (zi (nI kind)), some (zi (nI many)), some (zr 22 0), some (zr 24 0), some (zi (nI (flN kind n f))), some (zi (-1)), some (zi (-1)), some (zi (-1)), some (zi (-1)), none, none] [] (xFf P t fp sn g sm Df (eLs m0 c0 (zr 10 0)) (zAv 10 ga) j n d f) 4 118 96 := by
    intro em hnf sn g sm Df
    have ho : flO many kind n f = some (cfar n f (allB n), 0, 0) := if_pos em
    have hcf := cfar_le n f (allB n)
    have ex : ∀ (sn g sm : Int32) (Df : Nat → Int32), Z X [some (zr 1 0), none, some (zi (nI kind)), some (zi (nI many)), some (zr 22 0), some (zr 24 0), some (zi (nI (flN kind n f))), some (zi (nI (cfar n f (allB n)))), some (zi (-1)), some (zi (-1)), some (zi (-1)), some (zi (nI 0)), none] [] (xFf P t fp sn g sm Df (eLs m0 c0 (zr 10 0)) (zAv 10 ga) j n d f) 4 118 126 := by
      intro sn g sm Df
      refine z_iload F dX1_falls_126 rfl ?_
      refine z_iload_n F dX1_falls_128 rfl ?_
      refine z_iconst F (nI 1) dX1_falls_129 rfl ?_
      refine z_icmp_leN F (by omega) (by omega) (tgt := 138) dX1_falls_130 (by decide) (fun c_130 => ?_) (fun c_130 => ?_)
      · refine z_iconst F (nI 0) dX1_falls_138 rfl ?_
        refine z_icmp_geN F (by omega) (by omega) (tgt := 185) dX1_falls_139 (by decide) (fun c_139 => ?_) (fun c_139 => ?_)
        · refine z_iinc F (nI 0) dX1_falls_185 rfl (rfl) ?_
          refine z_leq (L' := [_, _, _, _, _, _, _, _, _, _, _, _, _]) rfl ?_
          refine z_goto F (tgt := 96) dX1_falls_188 (by decide) ?_
          refine z_iload F dX1_falls_96 rfl ?_
          refine z_iload_n F dX1_falls_98 rfl ?_
          refine z_if_leN F (by omega) (tgt := 107) dX1_falls_99 (by decide) (fun c_99 => ?_) (fun c_99 => ?_)
          · refine z_iconst F (nI 0) dX1_falls_107 rfl ?_
            refine z_icmp_ge F (tgt := 191) dX1_falls_108 (by decide) (fun c_108 => ?_) (fun c_108 => ?_)
            · refine z_loc _ ?_ (e0 em hnf _ sn g sm Df ho)
              exact ⟨rfl, rfl, rfl, rfl, trivial⟩
            · exact absurd (Int32.le_refl _) c_108
          · exact absurd c_99 (by omega)
        · exact absurd c_139 (by omega)
      · exact absurd c_130 (by omega)
    refine z_iload F dX1_falls_96 rfl ?_
    refine z_iload_n F dX1_falls_98 rfl ?_
    refine z_if_leN F (by omega) (tgt := 107) dX1_falls_99 (by decide) (fun c_99 => ?_) (fun c_99 => ?_)
    · refine z_iconst F (nI 0) dX1_falls_107 rfl ?_
      refine z_icmp_ge F (tgt := 191) dX1_falls_108 (by decide) (fun c_108 => ?_) (fun c_108 => ?_)
      · exact absurd c_108 (by decide)
      · refine z_iload_n F dX1_falls_111 rfl ?_
        refine z_iconst F (nI 1) dX1_falls_112 rfl ?_
        refine z_icmp_leN F (by omega) (by omega) (tgt := 123) dX1_falls_113 (by decide) (fun c_113 => ?_) (fun c_113 => ?_)
        · refine z_iconst F (-1) dX1_falls_123 rfl ?_
          refine z_istore F dX1_falls_124 (Nat.le_of_ble_eq_true rfl) ?_
          refine z_leq (L' := [_, _, _, _, _, _, _, _, _, _, _, _, _]) rfl ?_
          refine z_iload F dX1_falls_126 rfl ?_
          refine z_iload_n F dX1_falls_128 rfl ?_
          refine z_iconst F (nI 1) dX1_falls_129 rfl ?_
          refine z_icmp_leN F (by omega) (by omega) (tgt := 138) dX1_falls_130 (by decide) (fun c_130 => ?_) (fun c_130 => ?_)
          · refine z_iconst F (nI 0) dX1_falls_138 rfl ?_
            refine z_icmp_ge F (tgt := 185) dX1_falls_139 (by decide) (fun c_139 => ?_) (fun c_139 => ?_)
            · exact absurd c_139 (by decide)
            · refine z_aload_n F dX1_falls_142 rfl ?_
              refine z_aload F dX1_falls_143 rfl ?_
              refine z_aload F dX1_falls_145 rfl ?_
              refine z_iload_n F dX1_falls_147 rfl ?_
              refine z_iload F dX1_falls_148 rfl ?_
              refine z_iload F dX1_falls_150 rfl ?_
              refine z_callV F (c_xleft00 t fp sn g sm Df n d kind f  h hk) 5 rfl (lw_V q1071 q1073 qs23 q109 q1074) (by decide +kernel) ⟨Nat.le_of_ble_eq_true rfl, Nat.le_of_ble_eq_true rfl⟩ ⟨by omega, by omega⟩ [0, 1, 2, 3, 4, 5, 6, 7, 8, 9, 10, 11, 12, 13, 14, 15, 16, 17, 18, 19, 20, 21, 22, 23, 24] 25 ⟨rfl, rfl, rfl, ⟨Or.inl rfl, Or.inr rfl, Or.inl rfl, Or.inr rfl, Or.inr rfl, Or.inl rfl, Or.inl rfl, Or.inl rfl, Or.inl rfl, Or.inl rfl, Or.inl rfl, Or.inl rfl, Or.inl rfl, Or.inl rfl, Or.inl rfl, Or.inl rfl, Or.inl rfl, Or.inl rfl, Or.inl rfl, Or.inl rfl, Or.inl rfl, Or.inl rfl, Or.inr rfl, Or.inr rfl, Or.inr rfl, trivial⟩⟩ (fun h => nomatch h) (Nat.le_of_ble_eq_true rfl) ⟨⟨Or.inr (by first | exact ⟨rfl, pR_B _ (by decide)⟩ | exact ⟨rfl, uR_B (by decide) (by decide)⟩), Or.inl rfl, Or.inr trivial, Or.inl rfl, Or.inl rfl, Or.inr trivial, Or.inr trivial, Or.inr trivial, Or.inr trivial, Or.inr rfl, Or.inr (fun _ => rfl), Or.inr trivial, Or.inr trivial, Or.inr trivial, Or.inr trivial, Or.inr trivial, Or.inr trivial, Or.inr trivial, Or.inr trivial, Or.inr trivial, Or.inr trivial, Or.inr trivial, Or.inl rfl, Or.inl rfl, Or.inl rfl, trivial⟩, rfl, rfl, rfl, Nat.le_of_ble_eq_true rfl⟩ rfl zC1 rfl rfl dX1_falls_152 (fun r_152 w_152 hp => ?_) (fun _ _ h => h.elim)
              obtain ⟨rfl, sn1, g1, sm1, D1, rfl⟩ := hp
              refine z_weq (w' := [zPl _ _, zO _ [zr _ _, zr _ _, zr _ _, zr _ _, zr _ _, zi _, zi _, zr _ _, zr _ _], zH, zO _ [zr _ _, zi _, zi _, zi _], zAi 0 24 _, zH, zH, zH, zH, zO _ [zi _, zr _ _, zi _], zAr _ 10 _, zH, zH, zH, zH, zH, zH, zH, zH, zH, zH, zH, zO _ [zi _, zi _, zr _ _], zAi 0 24 _, zAi 0 (prs n f).length _]) rfl ?_
              refine z_seq (S' := zi _ :: _) rfl ?_
              refine z_istore F dX1_falls_155 (Nat.le_of_ble_eq_true rfl) ?_
              refine z_leq (L' := [_, _, _, _, _, _, _, _, _, _, _, _, _]) rfl ?_
              refine z_iload F dX1_falls_157 rfl ?_
              refine z_iload F dX1_falls_159 rfl ?_
              refine z_icmp_gt F (tgt := 167) dX1_falls_161 (by decide) (fun c_161 => ?_) (fun c_161 => ?_)
              · refine z_iload F dX1_falls_167 rfl ?_
                refine z_istore F dX1_falls_169 (Nat.le_of_ble_eq_true rfl) ?_
                refine z_leq (L' := [_, _, _, _, _, _, _, _, _, _, _, _, _]) rfl ?_
                refine z_iload F dX1_falls_171 rfl ?_
                refine z_istore F dX1_falls_173 (Nat.le_of_ble_eq_true rfl) ?_
                refine z_leq (L' := [_, _, _, _, _, _, _, _, _, _, _, _, _]) rfl ?_
                refine z_iload F dX1_falls_175 rfl ?_
                refine z_istore F dX1_falls_177 (Nat.le_of_ble_eq_true rfl) ?_
                refine z_leq (L' := [_, _, _, _, _, _, _, _, _, _, _, _, _]) rfl ?_
                refine z_iinc F (nI 0) dX1_falls_179 rfl (rfl) ?_
                refine z_leq (L' := [_, _, _, _, _, _, _, _, _, _, _, _, _]) rfl ?_
                refine z_goto F (tgt := 126) dX1_falls_182 (by decide) ?_
                exact ex sn1 g1 sm1 D1
              · exact absurd (neg_lt _ (by omega)) c_161
          · exact absurd c_130 (by omega)
        · exact absurd c_113 (by omega)
    · exact absurd c_99 (by omega)
  have z1 : many = 1 → ¬ few many kind n f → ∀ (u i : Nat) (sn g sm : Int32) (Df : Nat → Int32), flN kind n f - i < u → i ≤ flN kind n f → Z X [some (zr 1 0), none, some (zi (nI kind)), some (zi (nI many)), some (zr 22 0), some (zr 24 0), some (zi (nI (flN kind n f))), some (zi (fvI (fa1 (flV n f kind) i))), some (zi (faI (fa1 (flV n f kind) i))), some (zi (-1)), some (zi (nI i)), none, none] [] (xFf P t fp sn g sm Df (eLs m0 c0 (zr 10 0)) (zAv 10 ga) j n d f) 4 118 96 := by
    intro em hnf u
    induction u with
    | zero => intro i sn g sm Df hu; omega
    | succ u ih =>
      intro i sn g sm Df hu hi
      have hO : flO many kind n f = fa1 (flV n f kind) (flN kind n f) := by unfold flO; rw [if_neg (by omega), if_pos em]
      have hB := fa1_B (N := flN kind n f) (flV_le n f kind) i hi
      have hle := flV_le n f kind i i
      have ex : i < flN kind n f → ∀ (sn g sm : Int32) (Df : Nat → Int32), Z X [some (zr 1 0), none, some (zi (nI kind)), some (zi (nI many)), some (zr 22 0), some (zr 24 0), some (zi (nI (flN kind n f))), some (zi (fvI (fa1 (flV n f kind) (i + 1)))), some (zi (faI (fa1 (flV n f kind) (i + 1)))), some (zi (-1)), some (zi (nI i)), some (zi (nI 0)), none] [] (xFf P t fp sn g sm Df (eLs m0 c0 (zr 10 0)) (zAv 10 ga) j n d f) 4 118 126 := by
        intro hil sn g sm Df
        refine z_iload F dX1_falls_126 rfl ?_
        refine z_iload_n F dX1_falls_128 rfl ?_
        refine z_iconst F (nI 1) dX1_falls_129 rfl ?_
        refine z_icmp_leN F (by omega) (by omega) (tgt := 138) dX1_falls_130 (by decide) (fun c_130 => ?_) (fun c_130 => ?_)
        · refine z_iconst F (nI 0) dX1_falls_138 rfl ?_
          refine z_icmp_geN F (by omega) (by omega) (tgt := 185) dX1_falls_139 (by decide) (fun c_139 => ?_) (fun c_139 => ?_)
          · refine z_iincN F 1 dX1_falls_185 rfl rfl ?_
            refine z_leq (L' := [_, _, _, _, _, _, _, _, _, _, _, _, _]) rfl ?_
            refine z_goto F (tgt := 96) dX1_falls_188 (by decide) ?_
            refine z_loc _ ?_ (ih (i + 1) sn g sm Df (by omega) (by omega))
            exact ⟨rfl, rfl, rfl, rfl, rfl, rfl, rfl, rfl, rfl, rfl, trivial⟩
          · exact absurd c_139 (by omega)
        · exact absurd c_130 (by omega)
      refine z_iload F dX1_falls_96 rfl ?_
      refine z_iload_n F dX1_falls_98 rfl ?_
      refine z_if_leN F (by omega) (tgt := 107) dX1_falls_99 (by decide) (fun c_99 => ?_) (fun c_99 => ?_)
      · exact absurd c_99 (by omega)
      · refine z_iload F dX1_falls_102 rfl ?_
        refine z_goto F (tgt := 108) dX1_falls_104 (by decide) ?_
        refine z_icmp_geN F (by omega) (by omega) (tgt := 191) dX1_falls_108 (by decide) (fun c_108 => ?_) (fun c_108 => ?_)
        · have ei : i = flN kind n f := by omega
          subst ei
          obtain ⟨b, hb1, hb2, hb3, -⟩ := flO_s (by omega) hnf
          rw [hO] at hb1
          have hb4 := hb3 (by omega)
          rw [hb1]
          rw [hb1] at hO
          refine z_loc _ ?_ (e1 em hnf b.1 b.2.1 b.2.2 sn g sm Df hO (by omega))
          exact ⟨rfl, rfl, rfl, rfl, trivial⟩
        · refine z_iload_n F dX1_falls_111 rfl ?_
          refine z_iconst F (nI 1) dX1_falls_112 rfl ?_
          refine z_icmp_leN F (by omega) (by omega) (tgt := 123) dX1_falls_113 (by decide) (fun c_113 => ?_) (fun c_113 => ?_)
          · refine z_iconst F (-1) dX1_falls_123 rfl ?_
            refine z_istore F dX1_falls_124 (Nat.le_of_ble_eq_true rfl) ?_
            refine z_leq (L' := [_, _, _, _, _, _, _, _, _, _, _, _, _]) rfl ?_
            refine z_iload F dX1_falls_126 rfl ?_
            refine z_iload_n F dX1_falls_128 rfl ?_
            refine z_iconst F (nI 1) dX1_falls_129 rfl ?_
            refine z_icmp_leN F (by omega) (by omega) (tgt := 138) dX1_falls_130 (by decide) (fun c_130 => ?_) (fun c_130 => ?_)
            · refine z_iconst F (nI 0) dX1_falls_138 rfl ?_
              refine z_icmp_ge F (tgt := 185) dX1_falls_139 (by decide) (fun c_139 => ?_) (fun c_139 => ?_)
              · exact absurd c_139 (by decide)
              · refine z_aload_n F dX1_falls_142 rfl ?_
                refine z_aload F dX1_falls_143 rfl ?_
                refine z_aload F dX1_falls_145 rfl ?_
                refine z_iload_n F dX1_falls_147 rfl ?_
                refine z_iload F dX1_falls_148 rfl ?_
                refine z_iload F dX1_falls_150 rfl ?_
                refine z_callV F (c_xleft10 t fp sn g sm Df n d kind f i (by omega) h hk) 5 rfl (lw_V q1071 q1073 qs23 q109 q1074) (by decide +kernel) ⟨Nat.le_of_ble_eq_true rfl, Nat.le_of_ble_eq_true rfl⟩ ⟨by omega, by omega⟩ [0, 1, 2, 3, 4, 5, 6, 7, 8, 9, 10, 11, 12, 13, 14, 15, 16, 17, 18, 19, 20, 21, 22, 23, 24] 25 ⟨rfl, rfl, rfl, ⟨Or.inl rfl, Or.inr rfl, Or.inl rfl, Or.inr rfl, Or.inr rfl, Or.inl rfl, Or.inl rfl, Or.inl rfl, Or.inl rfl, Or.inl rfl, Or.inl rfl, Or.inl rfl, Or.inl rfl, Or.inl rfl, Or.inl rfl, Or.inl rfl, Or.inl rfl, Or.inl rfl, Or.inl rfl, Or.inl rfl, Or.inl rfl, Or.inl rfl, Or.inr rfl, Or.inr rfl, Or.inr rfl, trivial⟩⟩ (fun h => nomatch h) (Nat.le_of_ble_eq_true rfl) ⟨⟨Or.inr (by first | exact ⟨rfl, pR_B _ (by decide)⟩ | exact ⟨rfl, uR_B (by decide) (by decide)⟩), Or.inl rfl, Or.inr trivial, Or.inl rfl, Or.inl rfl, Or.inr trivial, Or.inr trivial, Or.inr trivial, Or.inr trivial, Or.inr rfl, Or.inr (fun _ => rfl), Or.inr trivial, Or.inr trivial, Or.inr trivial, Or.inr trivial, Or.inr trivial, Or.inr trivial, Or.inr trivial, Or.inr trivial, Or.inr trivial, Or.inr trivial, Or.inr trivial, Or.inl rfl, Or.inl rfl, Or.inl rfl, trivial⟩, rfl, rfl, rfl, Nat.le_of_ble_eq_true rfl⟩ rfl zC1 rfl rfl dX1_falls_152 (fun r_152 w_152 hp => ?_) (fun _ _ h => h.elim)
                obtain ⟨rfl, sn1, g1, sm1, D1, rfl⟩ := hp
                refine z_weq (w' := [zPl _ _, zO _ [zr _ _, zr _ _, zr _ _, zr _ _, zr _ _, zi _, zi _, zr _ _, zr _ _], zH, zO _ [zr _ _, zi _, zi _, zi _], zAi 0 24 _, zH, zH, zH, zH, zO _ [zi _, zr _ _, zi _], zAr _ 10 _, zH, zH, zH, zH, zH, zH, zH, zH, zH, zH, zH, zO _ [zi _, zi _, zr _ _], zAi 0 24 _, zAi 0 (prs n f).length _]) rfl ?_
                refine z_seq (S' := zi _ :: _) rfl ?_
                refine z_istore F dX1_falls_155 (Nat.le_of_ble_eq_true rfl) ?_
                refine z_leq (L' := [_, _, _, _, _, _, _, _, _, _, _, _, _]) rfl ?_
                refine z_iload F dX1_falls_157 rfl ?_
                refine z_iload F dX1_falls_159 rfl ?_
                refine z_icmp_gt F (tgt := 167) dX1_falls_161 (by decide) (fun c_161 => ?_) (fun c_161 => ?_)
                · refine z_iload F dX1_falls_167 rfl ?_
                  refine z_istore F dX1_falls_169 (Nat.le_of_ble_eq_true rfl) ?_
                  refine z_leq (L' := [_, _, _, _, _, _, _, _, _, _, _, _, _]) rfl ?_
                  refine z_iload F dX1_falls_171 rfl ?_
                  refine z_istore F dX1_falls_173 (Nat.le_of_ble_eq_true rfl) ?_
                  refine z_leq (L' := [_, _, _, _, _, _, _, _, _, _, _, _, _]) rfl ?_
                  refine z_iload F dX1_falls_175 rfl ?_
                  refine z_istore F dX1_falls_177 (Nat.le_of_ble_eq_true rfl) ?_
                  refine z_leq (L' := [_, _, _, _, _, _, _, _, _, _, _, _, _]) rfl ?_
                  refine z_iinc F (nI 0) dX1_falls_179 rfl (rfl) ?_
                  refine z_leq (L' := [_, _, _, _, _, _, _, _, _, _, _, _, _]) rfl ?_
                  refine z_goto F (tgt := 126) dX1_falls_182 (by decide) ?_
                  have e9 : fa1 (flV n f kind) (i + 1) = some (flV n f kind i i, i, i) := fax_lt hB hle c_161
                  have hx := ex (by omega) sn1 g1 sm1 D1
                  rw [e9] at hx
                  exact hx
                · refine z_goto F (tgt := 179) dX1_falls_164 (by decide) ?_
                  refine z_iinc F (nI 0) dX1_falls_179 rfl (rfl) ?_
                  refine z_leq (L' := [_, _, _, _, _, _, _, _, _, _, _, _, _]) rfl ?_
                  refine z_goto F (tgt := 126) dX1_falls_182 (by decide) ?_
                  have e9 : fa1 (flV n f kind) (i + 1) = fa1 (flV n f kind) i := fax_ge hB hle c_161
                  have hx := ex (by omega) sn1 g1 sm1 D1
                  rw [e9] at hx
                  exact hx
            · exact absurd c_130 (by omega)
          · exact absurd c_113 (by omega)
  have z2 : many = 2 → ¬ few many kind n f → ∀ (u i : Nat) (sn g sm : Int32) (Df : Nat → Int32), flN kind n f - i < u → i ≤ flN kind n f → Z X [some (zr 1 0), none, some (zi (nI kind)), some (zi (nI many)), some (zr 22 0), some (zr 24 0), some (zi (nI (flN kind n f))), some (zi (fvI (fa2 (flV n f kind) (flN kind n f) i))), some (zi (faI (fa2 (flV n f kind) (flN kind n f) i))), some (zi (fbI (fa2 (flV n f kind) (flN kind n f) i))), some (zi (nI i)), none, none] [] (xFf P t fp sn g sm Df (eLs m0 c0 (zr 10 0)) (zAv 10 ga) j n d f) 4 118 96 := by
    intro em hnf u
    induction u with
    | zero => intro i sn g sm Df hu; omega
    | succ u ih =>
      intro i sn g sm Df hu hi
      have hO : flO many kind n f = fa2 (flV n f kind) (flN kind n f) (flN kind n f) := by unfold flO; rw [if_neg (by omega), if_neg (by omega)]
      have hB0 := fa2_B (N := flN kind n f) (flV_le n f kind) i
      have inn : i < flN kind n f → ∀ (u2 q : Nat) (sn g sm : Int32) (Df : Nat → Int32), flN kind n f - q < u2 → i < q → q ≤ flN kind n f → Z X [some (zr 1 0), none, some (zi (nI kind)), some (zi (nI many)), some (zr 22 0), some (zr 24 0), some (zi (nI (flN kind n f))), some (zi (fvI (faR (flV n f kind) i (fa2 (flV n f kind) (flN kind n f) i) q))), some (zi (faI (faR (flV n f kind) i (fa2 (flV n f kind) (flN kind n f) i) q))), some (zi (fbI (faR (flV n f kind) i (fa2 (flV n f kind) (flN kind n f) i) q))), some (zi (nI i)), some (zi (nI q)), none] [] (xFf P t fp sn g sm Df (eLs m0 c0 (zr 10 0)) (zAv 10 ga) j n d f) 4 118 126 := by
        intro hil u2
        induction u2 with
        | zero => intro q sn g sm Df hu2; omega
        | succ u2 ih2 =>
          intro q sn g sm Df hu2 hiq hq
          have hB := faR_B (i := i) (flV_le n f kind) hB0 q hq
          have hle := flV_le n f kind i q
          have ex : faR (flV n f kind) i (fa2 (flV n f kind) (flN kind n f) i) (q + 1) = fax (faR (flV n f kind) i (fa2 (flV n f kind) (flN kind n f) i) q) (flV n f kind i q) i q := if_pos hiq
          refine z_iload F dX1_falls_126 rfl ?_
          refine z_iload_n F dX1_falls_128 rfl ?_
          refine z_iconst F (nI 1) dX1_falls_129 rfl ?_
          refine z_icmp_leN F (by omega) (by omega) (tgt := 138) dX1_falls_130 (by decide) (fun c_130 => ?_) (fun c_130 => ?_)
          · exact absurd c_130 (by omega)
          · refine z_iload F dX1_falls_133 rfl ?_
            refine z_goto F (tgt := 139) dX1_falls_135 (by decide) ?_
            refine z_icmp_geN F (by omega) (by omega) (tgt := 185) dX1_falls_139 (by decide) (fun c_139 => ?_) (fun c_139 => ?_)
            · have eq_ : q = flN kind n f := by omega
              subst eq_
              refine z_iincN F 1 dX1_falls_185 rfl rfl ?_
              refine z_leq (L' := [_, _, _, _, _, _, _, _, _, _, _, _, _]) rfl ?_
              refine z_goto F (tgt := 96) dX1_falls_188 (by decide) ?_
              refine z_loc _ ?_ (ih (i + 1) sn g sm Df (by omega) (by omega))
              exact ⟨rfl, rfl, rfl, rfl, rfl, rfl, rfl, rfl, rfl, rfl, trivial⟩
            · refine z_aload_n F dX1_falls_142 rfl ?_
              refine z_aload F dX1_falls_143 rfl ?_
              refine z_aload F dX1_falls_145 rfl ?_
              refine z_iload_n F dX1_falls_147 rfl ?_
              refine z_iload F dX1_falls_148 rfl ?_
              refine z_iload F dX1_falls_150 rfl ?_
              refine z_callV F (c_xleft11 t fp sn g sm Df n d kind f i q (by omega) (by omega) h hk) 5 rfl (lw_V q1071 q1073 qs23 q109 q1074) (by decide +kernel) ⟨Nat.le_of_ble_eq_true rfl, Nat.le_of_ble_eq_true rfl⟩ ⟨by omega, by omega⟩ [0, 1, 2, 3, 4, 5, 6, 7, 8, 9, 10, 11, 12, 13, 14, 15, 16, 17, 18, 19, 20, 21, 22, 23, 24] 25 ⟨rfl, rfl, rfl, ⟨Or.inl rfl, Or.inr rfl, Or.inl rfl, Or.inr rfl, Or.inr rfl, Or.inl rfl, Or.inl rfl, Or.inl rfl, Or.inl rfl, Or.inl rfl, Or.inl rfl, Or.inl rfl, Or.inl rfl, Or.inl rfl, Or.inl rfl, Or.inl rfl, Or.inl rfl, Or.inl rfl, Or.inl rfl, Or.inl rfl, Or.inl rfl, Or.inl rfl, Or.inr rfl, Or.inr rfl, Or.inr rfl, trivial⟩⟩ (fun h => nomatch h) (Nat.le_of_ble_eq_true rfl) ⟨⟨Or.inr (by first | exact ⟨rfl, pR_B _ (by decide)⟩ | exact ⟨rfl, uR_B (by decide) (by decide)⟩), Or.inl rfl, Or.inr trivial, Or.inl rfl, Or.inl rfl, Or.inr trivial, Or.inr trivial, Or.inr trivial, Or.inr trivial, Or.inr rfl, Or.inr (fun _ => rfl), Or.inr trivial, Or.inr trivial, Or.inr trivial, Or.inr trivial, Or.inr trivial, Or.inr trivial, Or.inr trivial, Or.inr trivial, Or.inr trivial, Or.inr trivial, Or.inr trivial, Or.inl rfl, Or.inl rfl, Or.inl rfl, trivial⟩, rfl, rfl, rfl, Nat.le_of_ble_eq_true rfl⟩ rfl zC1 rfl rfl dX1_falls_152 (fun r_152 w_152 hp => ?_) (fun _ _ h => h.elim)
              obtain ⟨rfl, sn1, g1, sm1, D1, rfl⟩ := hp
              refine z_weq (w' := [zPl _ _, zO _ [zr _ _, zr _ _, zr _ _, zr _ _, zr _ _, zi _, zi _, zr _ _, zr _ _], zH, zO _ [zr _ _, zi _, zi _, zi _], zAi 0 24 _, zH, zH, zH, zH, zO _ [zi _, zr _ _, zi _], zAr _ 10 _, zH, zH, zH, zH, zH, zH, zH, zH, zH, zH, zH, zO _ [zi _, zi _, zr _ _], zAi 0 24 _, zAi 0 (prs n f).length _]) rfl ?_
              refine z_seq (S' := zi _ :: _) rfl ?_
              refine z_istore F dX1_falls_155 (Nat.le_of_ble_eq_true rfl) ?_
              refine z_leq (L' := [_, _, _, _, _, _, _, _, _, _, _, _, _]) rfl ?_
              refine z_iload F dX1_falls_157 rfl ?_
              refine z_iload F dX1_falls_159 rfl ?_
              refine z_icmp_gt F (tgt := 167) dX1_falls_161 (by decide) (fun c_161 => ?_) (fun c_161 => ?_)
              · refine z_iload F dX1_falls_167 rfl ?_
                refine z_istore F dX1_falls_169 (Nat.le_of_ble_eq_true rfl) ?_
                refine z_leq (L' := [_, _, _, _, _, _, _, _, _, _, _, _, _]) rfl ?_
                refine z_iload F dX1_falls_171 rfl ?_
                refine z_istore F dX1_falls_173 (Nat.le_of_ble_eq_true rfl) ?_
                refine z_leq (L' := [_, _, _, _, _, _, _, _, _, _, _, _, _]) rfl ?_
                refine z_iload F dX1_falls_175 rfl ?_
                refine z_istore F dX1_falls_177 (Nat.le_of_ble_eq_true rfl) ?_
                refine z_leq (L' := [_, _, _, _, _, _, _, _, _, _, _, _, _]) rfl ?_
                refine z_iincN F 1 dX1_falls_179 rfl rfl ?_
                refine z_leq (L' := [_, _, _, _, _, _, _, _, _, _, _, _, _]) rfl ?_
                refine z_goto F (tgt := 126) dX1_falls_182 (by decide) ?_
                have hx := ih2 (q + 1) sn1 g1 sm1 D1 (by omega) (by omega) (by omega)
                rw [ex, fax_lt hB hle c_161] at hx
                refine z_loc _ ?_ hx
                exact ⟨rfl, rfl, rfl, rfl, rfl, rfl, rfl, rfl, rfl, rfl, rfl, trivial⟩
              · refine z_goto F (tgt := 179) dX1_falls_164 (by decide) ?_
                refine z_iincN F 1 dX1_falls_179 rfl rfl ?_
                refine z_leq (L' := [_, _, _, _, _, _, _, _, _, _, _, _, _]) rfl ?_
                refine z_goto F (tgt := 126) dX1_falls_182 (by decide) ?_
                have hx := ih2 (q + 1) sn1 g1 sm1 D1 (by omega) (by omega) (by omega)
                rw [ex, fax_ge hB hle c_161] at hx
                refine z_loc _ ?_ hx
                exact ⟨rfl, rfl, rfl, rfl, rfl, rfl, rfl, rfl, rfl, rfl, rfl, trivial⟩
      refine z_iload F dX1_falls_96 rfl ?_
      refine z_iload_n F dX1_falls_98 rfl ?_
      refine z_if_leN F (by omega) (tgt := 107) dX1_falls_99 (by decide) (fun c_99 => ?_) (fun c_99 => ?_)
      · exact absurd c_99 (by omega)
      · refine z_iload F dX1_falls_102 rfl ?_
        refine z_goto F (tgt := 108) dX1_falls_104 (by decide) ?_
        refine z_icmp_geN F (by omega) (by omega) (tgt := 191) dX1_falls_108 (by decide) (fun c_108 => ?_) (fun c_108 => ?_)
        · have ei : i = flN kind n f := by omega
          subst ei
          obtain ⟨b, hb1, hb2, hb3, hb5⟩ := flO_s (by omega) hnf
          rw [hO] at hb1
          have hb4 := hb3 (by omega)
          have hb6 := hb5 (by omega)
          rw [hb1]
          rw [hb1] at hO
          refine z_loc _ ?_ (e2 em hnf b.1 b.2.1 b.2.2 sn g sm Df hO (by omega) (by omega))
          exact ⟨rfl, rfl, rfl, rfl, trivial⟩
        · refine z_iload_n F dX1_falls_111 rfl ?_
          refine z_iconst F (nI 1) dX1_falls_112 rfl ?_
          refine z_icmp_leN F (by omega) (by omega) (tgt := 123) dX1_falls_113 (by decide) (fun c_113 => ?_) (fun c_113 => ?_)
          · exact absurd c_113 (by omega)
          · refine z_iload F dX1_falls_116 rfl ?_
            refine z_iconst F (nI 1) dX1_falls_118 rfl ?_
            refine z_iaddN F dX1_falls_119 ?_
            refine z_goto F (tgt := 124) dX1_falls_120 (by decide) ?_
            refine z_istore F dX1_falls_124 (Nat.le_of_ble_eq_true rfl) ?_
            refine z_leq (L' := [_, _, _, _, _, _, _, _, _, _, _, _, _]) rfl ?_
            have e9 := faR_ge (val := flV n f kind) (i := i) (o := fa2 (flV n f kind) (flN kind n f) i) (i + 1) (Nat.le_refl _)
            have nx := inn (by omega) (flN kind n f + 1) (i + 1) sn g sm Df (by omega) (by omega) (by omega)
            rw [e9] at nx
            exact nx
  have at55 : ∀ (v : Int32), v = nI (flN kind n f) → Z X [some (zr 1 0), none, some (zi (nI kind)), some (zi (nI many)), some (zr 22 0), some (zr 24 0), none, none, none, none, none, none, none] [zi v] (xFf P t fp sn0 g0 sm0 Df0 (eLs m0 c0 (zr 10 0)) (zAv 10 ga) j n d f) 4 118 55 := by
    intro v hv
    subst hv
    refine z_istore F dX1_falls_55 (Nat.le_of_ble_eq_true rfl) ?_
    refine z_leq (L' := [_, _, _, _, _, _, _, _, _, _, _, _, _]) rfl ?_
    refine z_iload_n F dX1_falls_57 rfl ?_
    refine z_iload F dX1_falls_58 rfl ?_
    refine z_icmp_gtN F (by omega) (by omega) (tgt := 74) dX1_falls_60 (by decide) (fun c_60 => ?_) (fun c_60 => ?_)
    · refine z_loc [some _, none, some _, some _, none, none, some _, none, none, none, none, none, none] ⟨rfl, rfl, rfl, rfl, trivial⟩ ?_
      refine z_unfocus F rfl j 22 23 22 hj zput_self rfl rfl (Nat.le_of_ble_eq_true rfl) (Nat.le_of_ble_eq_true rfl) (Nat.le_of_ble_eq_true rfl) (Nat.le_of_ble_eq_true rfl) [zO _ [zr _ _, zr _ _, zr _ _, zr _ _, zr _ _, zi _, zi _, zr _ _, zr _ _], zH, zO _ [zr _ _, zi _, zi _, zi _], zAi 0 24 _, zH, zH, zH, zH, zO _ [zi _, zr _ _, zi _], zAr _ 10 _, zH, zH, zH, zH, zH, zH, zH, zH, zH, zH, zH] rfl ⟨rfl, trivial, rfl, trivial, trivial, trivial, trivial, trivial, rfl, (fun _ => rfl), trivial, trivial, trivial, trivial, trivial, trivial, trivial, trivial, trivial, trivial, trivial, trivial⟩ uOK rfl rfl ?_
      refine z_weq (w' := zPl (pR (zput P j (some _))) (zput P j (some _)) :: _) (congrArg (fun z => z :: _) uPl2) ?_
      refine z_iconst F (-1) dX1_falls_74 rfl ?_
      exact z_iret F E rfl dX1_falls_75 (by omega) (by omega) (⟨sn0, g0, sm0, Df0, Or.inl ⟨Or.inl (by omega), rfl, by rw [zput_some hP]; rfl⟩⟩)
    · refine z_iload_n F dX1_falls_63 rfl ?_
      refine z_iconst F (nI 1) dX1_falls_64 rfl ?_
      refine z_icmp_neN F (by omega) (by omega) (tgt := 76) dX1_falls_65 (by decide) (fun c_65 => ?_) (fun c_65 => ?_)
      · have hnf : ¬ few many kind n f := fun z => z.elim (fun z => by omega) (fun z => by omega)
        refine z_iconst F (-1) dX1_falls_76 rfl ?_
        refine z_istore F dX1_falls_77 (Nat.le_of_ble_eq_true rfl) ?_
        refine z_leq (L' := [_, _, _, _, _, _, _, _, _, _, _, _, _]) rfl ?_
        refine z_iconst F (-1) dX1_falls_79 rfl ?_
        refine z_istore F dX1_falls_80 (Nat.le_of_ble_eq_true rfl) ?_
        refine z_leq (L' := [_, _, _, _, _, _, _, _, _, _, _, _, _]) rfl ?_
        refine z_iconst F (-1) dX1_falls_82 rfl ?_
        refine z_istore F dX1_falls_83 (Nat.le_of_ble_eq_true rfl) ?_
        refine z_leq (L' := [_, _, _, _, _, _, _, _, _, _, _, _, _]) rfl ?_
        refine z_iload_n F dX1_falls_85 rfl ?_
        refine z_if_leN F (by omega) (tgt := 93) dX1_falls_86 (by decide) (fun c_86 => ?_) (fun c_86 => ?_)
        · refine z_iconst F (-1) dX1_falls_93 rfl ?_
          refine z_istore F dX1_falls_94 (Nat.le_of_ble_eq_true rfl) ?_
          refine z_leq (L' := [_, _, _, _, _, _, _, _, _, _, _, _, _]) rfl ?_
          exact z0 (by omega) hnf sn0 g0 sm0 Df0
        · refine z_iconst F (nI 0) dX1_falls_89 rfl ?_
          refine z_goto F (tgt := 94) dX1_falls_90 (by decide) ?_
          refine z_istore F dX1_falls_94 (Nat.le_of_ble_eq_true rfl) ?_
          refine z_leq (L' := [_, _, _, _, _, _, _, _, _, _, _, _, _]) rfl ?_
          rcases (show many = 1 ∨ many = 2 by omega) with e1_ | e2_
          · exact z1 e1_ hnf (flN kind n f + 1) 0 sn0 g0 sm0 Df0 (by omega) (by omega)
          · exact z2 e2_ hnf (flN kind n f + 1) 0 sn0 g0 sm0 Df0 (by omega) (by omega)
      · refine z_iload_n F dX1_falls_68 rfl ?_
        refine z_iload F dX1_falls_69 rfl ?_
        refine z_icmp_neN F (by omega) (by omega) (tgt := 76) dX1_falls_71 (by decide) (fun c_71 => ?_) (fun c_71 => ?_)
        · have hnf : ¬ few many kind n f := fun z => z.elim (fun z => by omega) (fun z => by rw [flN, if_neg (by omega)] at c_71; omega)
          refine z_iconst F (-1) dX1_falls_76 rfl ?_
          refine z_istore F dX1_falls_77 (Nat.le_of_ble_eq_true rfl) ?_
          refine z_leq (L' := [_, _, _, _, _, _, _, _, _, _, _, _, _]) rfl ?_
          refine z_iconst F (-1) dX1_falls_79 rfl ?_
          refine z_istore F dX1_falls_80 (Nat.le_of_ble_eq_true rfl) ?_
          refine z_leq (L' := [_, _, _, _, _, _, _, _, _, _, _, _, _]) rfl ?_
          refine z_iconst F (-1) dX1_falls_82 rfl ?_
          refine z_istore F dX1_falls_83 (Nat.le_of_ble_eq_true rfl) ?_
          refine z_leq (L' := [_, _, _, _, _, _, _, _, _, _, _, _, _]) rfl ?_
          refine z_iload_n F dX1_falls_85 rfl ?_
          refine z_if_leN F (by omega) (tgt := 93) dX1_falls_86 (by decide) (fun c_86 => ?_) (fun c_86 => ?_)
          · refine z_iconst F (-1) dX1_falls_93 rfl ?_
            refine z_istore F dX1_falls_94 (Nat.le_of_ble_eq_true rfl) ?_
            refine z_leq (L' := [_, _, _, _, _, _, _, _, _, _, _, _, _]) rfl ?_
            exact z0 (by omega) hnf sn0 g0 sm0 Df0
          · refine z_iconst F (nI 0) dX1_falls_89 rfl ?_
            refine z_goto F (tgt := 94) dX1_falls_90 (by decide) ?_
            refine z_istore F dX1_falls_94 (Nat.le_of_ble_eq_true rfl) ?_
            refine z_leq (L' := [_, _, _, _, _, _, _, _, _, _, _, _, _]) rfl ?_
            rcases (show many = 1 ∨ many = 2 by omega) with e1_ | e2_
            · exact z1 e1_ hnf (flN kind n f + 1) 0 sn0 g0 sm0 Df0 (by omega) (by omega)
            · exact z2 e2_ hnf (flN kind n f + 1) 0 sn0 g0 sm0 Df0 (by omega) (by omega)
        · refine z_loc [some _, none, some _, some _, none, none, some _, none, none, none, none, none, none] ⟨rfl, rfl, rfl, rfl, trivial⟩ ?_
          refine z_unfocus F rfl j 22 23 22 hj zput_self rfl rfl (Nat.le_of_ble_eq_true rfl) (Nat.le_of_ble_eq_true rfl) (Nat.le_of_ble_eq_true rfl) (Nat.le_of_ble_eq_true rfl) [zO _ [zr _ _, zr _ _, zr _ _, zr _ _, zr _ _, zi _, zi _, zr _ _, zr _ _], zH, zO _ [zr _ _, zi _, zi _, zi _], zAi 0 24 _, zH, zH, zH, zH, zO _ [zi _, zr _ _, zi _], zAr _ 10 _, zH, zH, zH, zH, zH, zH, zH, zH, zH, zH, zH] rfl ⟨rfl, trivial, rfl, trivial, trivial, trivial, trivial, trivial, rfl, (fun _ => rfl), trivial, trivial, trivial, trivial, trivial, trivial, trivial, trivial, trivial, trivial, trivial, trivial⟩ uOK rfl rfl ?_
          refine z_weq (w' := zPl (pR (zput P j (some _))) (zput P j (some _)) :: _) (congrArg (fun z => z :: _) uPl2) ?_
          refine z_iconst F (-1) dX1_falls_74 rfl ?_
          exact z_iret F E rfl dX1_falls_75 (by omega) (by omega) (⟨sn0, g0, sm0, Df0, Or.inl ⟨Or.inr ⟨by omega, by rw [flN, if_neg (by omega)] at c_71; omega⟩, rfl, by rw [zput_some hP]; rfl⟩⟩)
  refine z_aload_n F dX1_falls_0 rfl ?_
  refine z_iload_n F dX1_falls_1 rfl ?_
  refine z_callV F (c_netAt_ok P t fp j hj hP) 1 rfl (lw_V q429 q431 qs0 q109 q432) (by decide +kernel) ⟨Nat.le_of_ble_eq_true rfl, Nat.le_of_ble_eq_true rfl⟩ ⟨by omega, by omega⟩ [0, 1, 2, 3, 4, 5, 6, 7, 8, 9, 10, 11, 12, 13, 14, 15, 16, 17, 18, 19, 20, 21] 22 ⟨rfl, rfl, rfl, ⟨Or.inr (congrArg some (zrnP rfl).symm), Or.inr rfl, Or.inl rfl, Or.inl rfl, Or.inl rfl, Or.inl rfl, Or.inl rfl, Or.inl rfl, Or.inl rfl, Or.inl rfl, Or.inl rfl, Or.inl rfl, Or.inl rfl, Or.inl rfl, Or.inl rfl, Or.inl rfl, Or.inl rfl, Or.inl rfl, Or.inl rfl, Or.inl rfl, Or.inl rfl, Or.inl rfl, trivial⟩⟩ (fun _ => rfl) (Nat.le_of_ble_eq_true rfl) ⟨⟨Or.inl rfl, Or.inl rfl, Or.inr trivial, Or.inr rfl, Or.inr trivial, Or.inr trivial, Or.inr trivial, Or.inr trivial, Or.inr trivial, Or.inr rfl, Or.inr (fun _ => rfl), Or.inr trivial, Or.inr trivial, Or.inr trivial, Or.inr trivial, Or.inr trivial, Or.inr trivial, Or.inr trivial, Or.inr trivial, Or.inr trivial, Or.inr trivial, Or.inr trivial, trivial⟩, rfl, rfl, rfl, Nat.le_of_ble_eq_true rfl⟩ rfl zC1 rfl rfl dX1_falls_2 (fun r_2 w_2 hp => ?_) (fun _ _ h => h.elim)
  obtain ⟨rfl, rfl⟩ := hp
  refine z_weq (w' := zPl (pR _) _ :: _) (congrArg (fun z => z :: _) (zrnP rfl)) ?_
  refine z_weq (w' := [zPl _ _, zO _ [zr _ _, zr _ _, zr _ _, zr _ _, zr _ _, zi _, zi _, zr _ _, zr _ _], zH, zO _ [zr _ _, zi _, zi _, zi _], zAi 0 24 _, zH, zH, zH, zH, zO _ [zi _, zr _ _, zi _], zAr _ 10 _, zH, zH, zH, zH, zH, zH, zH, zH, zH, zH, zH]) rfl ?_
  refine z_seq (S' := zr _ _ :: _) rfl ?_
  refine z_astore F dX1_falls_5 (Nat.le_of_ble_eq_true rfl) ?_
  refine z_leq (L' := [_, _, _, _, _, _, _, _, _, _, _, _, _]) rfl ?_
  refine z_foc F j hj hP (N := 22) (M := 23) (L' := [_, _, _, _, some (zr 22 0), _, _, _, _, _, _, _, _]) (S' := []) rfl rfl (Nat.le_of_ble_eq_true rfl) ⟨rfl, trivial, rfl, trivial, trivial, trivial, trivial, trivial, rfl, (fun _ => rfl), trivial, trivial, trivial, trivial, trivial, trivial, trivial, trivial, trivial, trivial, trivial, trivial⟩ ⟨Or.inl rfl, Or.inl rfl, Or.inl rfl, Or.inl rfl, Or.inr ⟨rfl, rfl⟩, Or.inl rfl, Or.inl rfl, Or.inl rfl, Or.inl rfl, Or.inl rfl, Or.inl rfl, Or.inl rfl, Or.inl rfl, trivial⟩ rfl trivial rfl ?_
  refine z_weq (w' := [zPl _ _, zO _ [zr _ _, zr _ _, zr _ _, zr _ _, zr _ _, zi _, zi _, zr _ _, zr _ _], zH, zO _ [zr _ _, zi _, zi _, zi _], zAi 0 24 _, zH, zH, zH, zH, zO _ [zi _, zr _ _, zi _], zAr _ 10 _, zH, zH, zH, zH, zH, zH, zH, zH, zH, zH, zH, zO _ [zi _, zi _, zr _ _], zAi 0 24 _]) rfl ?_
  refine z_iload_n F dX1_falls_7 rfl ?_
  refine z_if_eqN F (by omega) (tgt := 16) dX1_falls_8 (by decide) (fun c_8 => ?_) (fun c_8 => ?_)
  · refine z_iconstB F true dX1_falls_16 rfl ?_
    refine z_goto F (tgt := 21) dX1_falls_17 (by decide) ?_
    refine z_callS F (c_fnd true) 1 rfl (lw_S q433 q434 q109 q435) (by decide +kernel) ⟨Nat.le_of_ble_eq_true rfl, Nat.le_of_ble_eq_true rfl⟩ ⟨by omega, by omega⟩ [0] 24 ⟨rfl, rfl, rfl, ⟨Or.inl rfl, trivial⟩⟩ (fun h => nomatch h) (Nat.le_of_ble_eq_true rfl) ⟨⟨Or.inr (by first | exact ⟨rfl, pR_B _ (by decide)⟩ | exact ⟨rfl, uR_B (by decide) (by decide)⟩), Or.inr rfl, Or.inr trivial, Or.inr rfl, Or.inr trivial, Or.inr trivial, Or.inr trivial, Or.inr trivial, Or.inr trivial, Or.inr rfl, Or.inr (fun _ => rfl), Or.inr trivial, Or.inr trivial, Or.inr trivial, Or.inr trivial, Or.inr trivial, Or.inr trivial, Or.inr trivial, Or.inr trivial, Or.inr trivial, Or.inr trivial, Or.inr trivial, Or.inr rfl, Or.inr trivial, trivial⟩, rfl, rfl, rfl, Nat.le_of_ble_eq_true rfl⟩ rfl rfl dX1_falls_21 (fun r_21 w_21 hp => ?_) (fun E_ w_ hx => by obtain ⟨-, hb, -⟩ := hx; cases hb)
    obtain ⟨rfl, -, rfl⟩ := hp
    refine z_weq (w' := [zPl _ _, zO _ [zr _ _, zr _ _, zr _ _, zr _ _, zr _ _, zi _, zi _, zr _ _, zr _ _], zH, zO _ [zr _ _, zi _, zi _, zi _], zAi 0 24 _, zH, zH, zH, zH, zO _ [zi _, zr _ _, zi _], zAr _ 10 _, zH, zH, zH, zH, zH, zH, zH, zH, zH, zH, zH, zO _ [zi _, zi _, zr _ _], zAi 0 24 _]) rfl ?_
    refine z_seq (S' := []) rfl ?_
    refine z_iload_n F dX1_falls_24 rfl ?_
    refine z_iconst F (nI 0) dX1_falls_25 rfl ?_
    refine z_iconst F (nI 2) dX1_falls_26 rfl ?_
    refine z_callS F (c_in (nI many) (nI 0) (nI 2)) 3 rfl (lw_S q349 q350 q109 q351) (by decide +kernel) ⟨Nat.le_of_ble_eq_true rfl, Nat.le_of_ble_eq_true rfl⟩ ⟨by omega, by omega⟩ [0] 24 ⟨rfl, rfl, rfl, ⟨Or.inl rfl, trivial⟩⟩ (fun h => nomatch h) (Nat.le_of_ble_eq_true rfl) ⟨⟨Or.inr (by first | exact ⟨rfl, pR_B _ (by decide)⟩ | exact ⟨rfl, uR_B (by decide) (by decide)⟩), Or.inr rfl, Or.inr trivial, Or.inr rfl, Or.inr trivial, Or.inr trivial, Or.inr trivial, Or.inr trivial, Or.inr trivial, Or.inr rfl, Or.inr (fun _ => rfl), Or.inr trivial, Or.inr trivial, Or.inr trivial, Or.inr trivial, Or.inr trivial, Or.inr trivial, Or.inr trivial, Or.inr trivial, Or.inr trivial, Or.inr trivial, Or.inr trivial, Or.inr rfl, Or.inr trivial, trivial⟩, rfl, rfl, rfl, Nat.le_of_ble_eq_true rfl⟩ rfl rfl dX1_falls_27 (fun r_27 w_27 hp => ?_) (fun _ _ h => h.elim)
    obtain ⟨rfl, rfl⟩ := hp
    refine z_weq (w' := [zPl _ _, zO _ [zr _ _, zr _ _, zr _ _, zr _ _, zr _ _, zi _, zi _, zr _ _, zr _ _], zH, zO _ [zr _ _, zi _, zi _, zi _], zAi 0 24 _, zH, zH, zH, zH, zO _ [zi _, zr _ _, zi _], zAr _ 10 _, zH, zH, zH, zH, zH, zH, zH, zH, zH, zH, zH, zO _ [zi _, zi _, zr _ _], zAi 0 24 _]) rfl ?_
    refine z_seq (S' := zi _ :: _) rfl ?_
    rw [show inB (nI many) (nI 0) (nI 2) = true from inB_n (by omega) (by omega) (by omega)]
    refine z_callS F (c_rgt true) 1 rfl (lw_S q538 q539 q109 q540) (by decide +kernel) ⟨Nat.le_of_ble_eq_true rfl, Nat.le_of_ble_eq_true rfl⟩ ⟨by omega, by omega⟩ [0] 24 ⟨rfl, rfl, rfl, ⟨Or.inl rfl, trivial⟩⟩ (fun h => nomatch h) (Nat.le_of_ble_eq_true rfl) ⟨⟨Or.inr (by first | exact ⟨rfl, pR_B _ (by decide)⟩ | exact ⟨rfl, uR_B (by decide) (by decide)⟩), Or.inr rfl, Or.inr trivial, Or.inr rfl, Or.inr trivial, Or.inr trivial, Or.inr trivial, Or.inr trivial, Or.inr trivial, Or.inr rfl, Or.inr (fun _ => rfl), Or.inr trivial, Or.inr trivial, Or.inr trivial, Or.inr trivial, Or.inr trivial, Or.inr trivial, Or.inr trivial, Or.inr trivial, Or.inr trivial, Or.inr trivial, Or.inr trivial, Or.inr rfl, Or.inr trivial, trivial⟩, rfl, rfl, rfl, Nat.le_of_ble_eq_true rfl⟩ rfl rfl dX1_falls_30 (fun r_30 w_30 hp => ?_) (fun E_ w_ hx => by obtain ⟨-, hb, -⟩ := hx; cases hb)
    obtain ⟨rfl, -, rfl⟩ := hp
    refine z_weq (w' := [zPl _ _, zO _ [zr _ _, zr _ _, zr _ _, zr _ _, zr _ _, zi _, zi _, zr _ _, zr _ _], zH, zO _ [zr _ _, zi _, zi _, zi _], zAi 0 24 _, zH, zH, zH, zH, zO _ [zi _, zr _ _, zi _], zAr _ 10 _, zH, zH, zH, zH, zH, zH, zH, zH, zH, zH, zH, zO _ [zi _, zi _, zr _ _], zAi 0 24 _]) rfl ?_
    refine z_seq (S' := []) rfl ?_
    refine z_aload F dX1_falls_33 rfl ?_
    refine z_callV F (c_row n (nI d) f h.sy (by omega)) 0 rfl (lw_V q779 q780 q781 q116 q782) (by decide +kernel) ⟨Nat.le_of_ble_eq_true rfl, Nat.le_of_ble_eq_true rfl⟩ ⟨by omega, by omega⟩ [0, 22, 23] 24 ⟨rfl, rfl, rfl, ⟨Or.inl rfl, Or.inr rfl, Or.inr rfl, trivial⟩⟩ (fun h => nomatch h) (Nat.le_of_ble_eq_true rfl) ⟨⟨Or.inr (by first | exact ⟨rfl, pR_B _ (by decide)⟩ | exact ⟨rfl, uR_B (by decide) (by decide)⟩), Or.inr rfl, Or.inr trivial, Or.inr rfl, Or.inr trivial, Or.inr trivial, Or.inr trivial, Or.inr trivial, Or.inr trivial, Or.inr rfl, Or.inr (fun _ => rfl), Or.inr trivial, Or.inr trivial, Or.inr trivial, Or.inr trivial, Or.inr trivial, Or.inr trivial, Or.inr trivial, Or.inr trivial, Or.inr trivial, Or.inr trivial, Or.inr trivial, Or.inl rfl, Or.inl rfl, trivial⟩, rfl, rfl, rfl, Nat.le_of_ble_eq_true rfl⟩ rfl zC5 rfl rfl dX1_falls_35 (fun r_35 w_35 hp => ?_) (fun _ _ h => h.elim)
    obtain ⟨rfl, rfl⟩ := hp
    refine z_weq (w' := [zPl _ _, zO _ [zr _ _, zr _ _, zr _ _, zr _ _, zr _ _, zi _, zi _, zr _ _, zr _ _], zH, zO _ [zr _ _, zi _, zi _, zi _], zAi 0 24 _, zH, zH, zH, zH, zO _ [zi _, zr _ _, zi _], zAr _ 10 _, zH, zH, zH, zH, zH, zH, zH, zH, zH, zH, zH, zO _ [zi _, zi _, zr _ _], zAi 0 24 _, zAi 0 (prs n f).length _]) rfl ?_
    refine z_seq (S' := zr _ _ :: _) rfl ?_
    refine z_astore F dX1_falls_38 (Nat.le_of_ble_eq_true rfl) ?_
    refine z_leq (L' := [_, _, _, _, _, _, _, _, _, _, _, _, _]) rfl ?_
    refine z_iload_n F dX1_falls_40 rfl ?_
    refine z_if_neN F (by omega) (tgt := 50) dX1_falls_41 (by decide) (fun c_41 => ?_) (fun c_41 => ?_)
    · refine z_aload F dX1_falls_50 rfl ?_
      refine z_getN F zC5 (f := 0) rfl (Nat.le_of_ble_eq_true rfl) q245 rfl dX1_falls_52 ?_
      refine z_loc _ ?_ (at55 _ (by rw [flN, if_neg (by omega)]))
      exact ⟨rfl, rfl, rfl, rfl, rfl, trivial⟩
    · refine z_aload F dX1_falls_44 rfl ?_
      refine z_alenN F (fun _ => rfl) rfl dX1_falls_46 ?_
      refine z_goto F (tgt := 55) dX1_falls_47 (by decide) ?_
      refine z_loc _ ?_ (at55 _ (by rw [flN, if_pos (by omega)]))
      exact ⟨rfl, rfl, rfl, rfl, rfl, trivial⟩
  · refine z_iload_n F dX1_falls_11 rfl ?_
    refine z_iconst F (nI 1) dX1_falls_12 rfl ?_
    refine z_icmp_neN F (by omega) (by omega) (tgt := 20) dX1_falls_13 (by decide) (fun c_13 => ?_) (fun c_13 => ?_)
    · exact absurd c_13 (by omega)
    · refine z_iconstB F true dX1_falls_16 rfl ?_
      refine z_goto F (tgt := 21) dX1_falls_17 (by decide) ?_
      refine z_callS F (c_fnd true) 1 rfl (lw_S q433 q434 q109 q435) (by decide +kernel) ⟨Nat.le_of_ble_eq_true rfl, Nat.le_of_ble_eq_true rfl⟩ ⟨by omega, by omega⟩ [0] 24 ⟨rfl, rfl, rfl, ⟨Or.inl rfl, trivial⟩⟩ (fun h => nomatch h) (Nat.le_of_ble_eq_true rfl) ⟨⟨Or.inr (by first | exact ⟨rfl, pR_B _ (by decide)⟩ | exact ⟨rfl, uR_B (by decide) (by decide)⟩), Or.inr rfl, Or.inr trivial, Or.inr rfl, Or.inr trivial, Or.inr trivial, Or.inr trivial, Or.inr trivial, Or.inr trivial, Or.inr rfl, Or.inr (fun _ => rfl), Or.inr trivial, Or.inr trivial, Or.inr trivial, Or.inr trivial, Or.inr trivial, Or.inr trivial, Or.inr trivial, Or.inr trivial, Or.inr trivial, Or.inr trivial, Or.inr trivial, Or.inr rfl, Or.inr trivial, trivial⟩, rfl, rfl, rfl, Nat.le_of_ble_eq_true rfl⟩ rfl rfl dX1_falls_21 (fun r_21 w_21 hp => ?_) (fun E_ w_ hx => by obtain ⟨-, hb, -⟩ := hx; cases hb)
      obtain ⟨rfl, -, rfl⟩ := hp
      refine z_weq (w' := [zPl _ _, zO _ [zr _ _, zr _ _, zr _ _, zr _ _, zr _ _, zi _, zi _, zr _ _, zr _ _], zH, zO _ [zr _ _, zi _, zi _, zi _], zAi 0 24 _, zH, zH, zH, zH, zO _ [zi _, zr _ _, zi _], zAr _ 10 _, zH, zH, zH, zH, zH, zH, zH, zH, zH, zH, zH, zO _ [zi _, zi _, zr _ _], zAi 0 24 _]) rfl ?_
      refine z_seq (S' := []) rfl ?_
      refine z_iload_n F dX1_falls_24 rfl ?_
      refine z_iconst F (nI 0) dX1_falls_25 rfl ?_
      refine z_iconst F (nI 2) dX1_falls_26 rfl ?_
      refine z_callS F (c_in (nI many) (nI 0) (nI 2)) 3 rfl (lw_S q349 q350 q109 q351) (by decide +kernel) ⟨Nat.le_of_ble_eq_true rfl, Nat.le_of_ble_eq_true rfl⟩ ⟨by omega, by omega⟩ [0] 24 ⟨rfl, rfl, rfl, ⟨Or.inl rfl, trivial⟩⟩ (fun h => nomatch h) (Nat.le_of_ble_eq_true rfl) ⟨⟨Or.inr (by first | exact ⟨rfl, pR_B _ (by decide)⟩ | exact ⟨rfl, uR_B (by decide) (by decide)⟩), Or.inr rfl, Or.inr trivial, Or.inr rfl, Or.inr trivial, Or.inr trivial, Or.inr trivial, Or.inr trivial, Or.inr trivial, Or.inr rfl, Or.inr (fun _ => rfl), Or.inr trivial, Or.inr trivial, Or.inr trivial, Or.inr trivial, Or.inr trivial, Or.inr trivial, Or.inr trivial, Or.inr trivial, Or.inr trivial, Or.inr trivial, Or.inr trivial, Or.inr rfl, Or.inr trivial, trivial⟩, rfl, rfl, rfl, Nat.le_of_ble_eq_true rfl⟩ rfl rfl dX1_falls_27 (fun r_27 w_27 hp => ?_) (fun _ _ h => h.elim)
      obtain ⟨rfl, rfl⟩ := hp
      refine z_weq (w' := [zPl _ _, zO _ [zr _ _, zr _ _, zr _ _, zr _ _, zr _ _, zi _, zi _, zr _ _, zr _ _], zH, zO _ [zr _ _, zi _, zi _, zi _], zAi 0 24 _, zH, zH, zH, zH, zO _ [zi _, zr _ _, zi _], zAr _ 10 _, zH, zH, zH, zH, zH, zH, zH, zH, zH, zH, zH, zO _ [zi _, zi _, zr _ _], zAi 0 24 _]) rfl ?_
      refine z_seq (S' := zi _ :: _) rfl ?_
      rw [show inB (nI many) (nI 0) (nI 2) = true from inB_n (by omega) (by omega) (by omega)]
      refine z_callS F (c_rgt true) 1 rfl (lw_S q538 q539 q109 q540) (by decide +kernel) ⟨Nat.le_of_ble_eq_true rfl, Nat.le_of_ble_eq_true rfl⟩ ⟨by omega, by omega⟩ [0] 24 ⟨rfl, rfl, rfl, ⟨Or.inl rfl, trivial⟩⟩ (fun h => nomatch h) (Nat.le_of_ble_eq_true rfl) ⟨⟨Or.inr (by first | exact ⟨rfl, pR_B _ (by decide)⟩ | exact ⟨rfl, uR_B (by decide) (by decide)⟩), Or.inr rfl, Or.inr trivial, Or.inr rfl, Or.inr trivial, Or.inr trivial, Or.inr trivial, Or.inr trivial, Or.inr trivial, Or.inr rfl, Or.inr (fun _ => rfl), Or.inr trivial, Or.inr trivial, Or.inr trivial, Or.inr trivial, Or.inr trivial, Or.inr trivial, Or.inr trivial, Or.inr trivial, Or.inr trivial, Or.inr trivial, Or.inr trivial, Or.inr rfl, Or.inr trivial, trivial⟩, rfl, rfl, rfl, Nat.le_of_ble_eq_true rfl⟩ rfl rfl dX1_falls_30 (fun r_30 w_30 hp => ?_) (fun E_ w_ hx => by obtain ⟨-, hb, -⟩ := hx; cases hb)
      obtain ⟨rfl, -, rfl⟩ := hp
      refine z_weq (w' := [zPl _ _, zO _ [zr _ _, zr _ _, zr _ _, zr _ _, zr _ _, zi _, zi _, zr _ _, zr _ _], zH, zO _ [zr _ _, zi _, zi _, zi _], zAi 0 24 _, zH, zH, zH, zH, zO _ [zi _, zr _ _, zi _], zAr _ 10 _, zH, zH, zH, zH, zH, zH, zH, zH, zH, zH, zH, zO _ [zi _, zi _, zr _ _], zAi 0 24 _]) rfl ?_
      refine z_seq (S' := []) rfl ?_
      refine z_aload F dX1_falls_33 rfl ?_
      refine z_callV F (c_row n (nI d) f h.sy (by omega)) 0 rfl (lw_V q779 q780 q781 q116 q782) (by decide +kernel) ⟨Nat.le_of_ble_eq_true rfl, Nat.le_of_ble_eq_true rfl⟩ ⟨by omega, by omega⟩ [0, 22, 23] 24 ⟨rfl, rfl, rfl, ⟨Or.inl rfl, Or.inr rfl, Or.inr rfl, trivial⟩⟩ (fun h => nomatch h) (Nat.le_of_ble_eq_true rfl) ⟨⟨Or.inr (by first | exact ⟨rfl, pR_B _ (by decide)⟩ | exact ⟨rfl, uR_B (by decide) (by decide)⟩), Or.inr rfl, Or.inr trivial, Or.inr rfl, Or.inr trivial, Or.inr trivial, Or.inr trivial, Or.inr trivial, Or.inr trivial, Or.inr rfl, Or.inr (fun _ => rfl), Or.inr trivial, Or.inr trivial, Or.inr trivial, Or.inr trivial, Or.inr trivial, Or.inr trivial, Or.inr trivial, Or.inr trivial, Or.inr trivial, Or.inr trivial, Or.inr trivial, Or.inl rfl, Or.inl rfl, trivial⟩, rfl, rfl, rfl, Nat.le_of_ble_eq_true rfl⟩ rfl zC5 rfl rfl dX1_falls_35 (fun r_35 w_35 hp => ?_) (fun _ _ h => h.elim)
      obtain ⟨rfl, rfl⟩ := hp
      refine z_weq (w' := [zPl _ _, zO _ [zr _ _, zr _ _, zr _ _, zr _ _, zr _ _, zi _, zi _, zr _ _, zr _ _], zH, zO _ [zr _ _, zi _, zi _, zi _], zAi 0 24 _, zH, zH, zH, zH, zO _ [zi _, zr _ _, zi _], zAr _ 10 _, zH, zH, zH, zH, zH, zH, zH, zH, zH, zH, zH, zO _ [zi _, zi _, zr _ _], zAi 0 24 _, zAi 0 (prs n f).length _]) rfl ?_
      refine z_seq (S' := zr _ _ :: _) rfl ?_
      refine z_astore F dX1_falls_38 (Nat.le_of_ble_eq_true rfl) ?_
      refine z_leq (L' := [_, _, _, _, _, _, _, _, _, _, _, _, _]) rfl ?_
      refine z_iload_n F dX1_falls_40 rfl ?_
      refine z_if_neN F (by omega) (tgt := 50) dX1_falls_41 (by decide) (fun c_41 => ?_) (fun c_41 => ?_)
      · refine z_aload F dX1_falls_50 rfl ?_
        refine z_getN F zC5 (f := 0) rfl (Nat.le_of_ble_eq_true rfl) q245 rfl dX1_falls_52 ?_
        refine z_loc _ ?_ (at55 _ (by rw [flN, if_neg (by omega)]))
        exact ⟨rfl, rfl, rfl, rfl, rfl, trivial⟩
      · refine z_aload F dX1_falls_44 rfl ?_
        refine z_alenN F (fun _ => rfl) rfl dX1_falls_46 ?_
        refine z_goto F (tgt := 55) dX1_falls_47 (by decide) ?_
        refine z_loc _ ?_ (at55 _ (by rw [flN, if_pos (by omega)]))
        exact ⟨rfl, rfl, rfl, rfl, rfl, trivial⟩
theorem c_pfalls_badK (P : zPt) (t : Nat) (fp : Int32) (j n d : Nat) (f : Nat → Int32) (kind many : Int32) (hj : j < 8) (h : nok n d f) (hP : P j = some (nI n, nI d, f)) (hk : ¬ kind = nI 0 ∧ ¬ kind = nI 1) : zCtr yX1_falls cX1_falls 13 (some .int) 8 8 160 [zr 1 0, zi (nI j), zi kind, zi many] (xH P t fp) (fun r v => False) (fun E w => E = eNSE ∧ True ∧ w = xH P t fp) := by
  refine z_start (by decide) [some (zr 1 0), some (zi (nI j)), some (zi kind), some (zi many), none, none, none, none, none, none, none, none, none] rfl (fun _ => Nat.le_of_ble_eq_true rfl) (fun _ => rfl) (fun X F E hno hin => ?_)
  refine z_aload_n F dX1_falls_0 rfl ?_
  refine z_iload_n F dX1_falls_1 rfl ?_
  refine z_callV F (c_netAt_ok P t fp j hj hP) 1 rfl (lw_V q429 q431 qs0 q109 q432) (by decide +kernel) ⟨Nat.le_of_ble_eq_true rfl, Nat.le_of_ble_eq_true rfl⟩ ⟨by omega, by omega⟩ [0, 1, 2, 3, 4, 5, 6, 7, 8, 9, 10, 11, 12, 13, 14, 15, 16, 17, 18, 19, 20, 21] 22 ⟨rfl, rfl, rfl, ⟨Or.inr (congrArg some (zrnP rfl).symm), Or.inr rfl, Or.inl rfl, Or.inl rfl, Or.inl rfl, Or.inl rfl, Or.inl rfl, Or.inl rfl, Or.inl rfl, Or.inl rfl, Or.inl rfl, Or.inl rfl, Or.inl rfl, Or.inl rfl, Or.inl rfl, Or.inl rfl, Or.inl rfl, Or.inl rfl, Or.inl rfl, Or.inl rfl, Or.inl rfl, Or.inl rfl, trivial⟩⟩ (fun _ => rfl) (Nat.le_of_ble_eq_true rfl) ⟨⟨Or.inl rfl, Or.inl rfl, Or.inr trivial, Or.inr trivial, Or.inr trivial, Or.inr trivial, Or.inr trivial, Or.inr trivial, Or.inr trivial, Or.inr trivial, Or.inr trivial, Or.inr trivial, Or.inr trivial, Or.inr trivial, Or.inr trivial, Or.inr trivial, Or.inr trivial, Or.inr trivial, Or.inr trivial, Or.inr trivial, Or.inr trivial, Or.inr trivial, trivial⟩, rfl, rfl, rfl, Nat.le_of_ble_eq_true rfl⟩ rfl zC1 rfl rfl dX1_falls_2 (fun r_2 w_2 hp => ?_) (fun _ _ h => h.elim)
  obtain ⟨rfl, rfl⟩ := hp
  refine z_weq (w' := zPl (pR _) _ :: _) (congrArg (fun z => z :: _) (zrnP rfl)) ?_
  refine z_weq (w' := [zPl _ _, zO _ [zr _ _, zr _ _, zr _ _, zr _ _, zr _ _, zi _, zi _, zr _ _, zr _ _], zH, zH, zH, zH, zH, zH, zH, zH, zH, zH, zH, zH, zH, zH, zH, zH, zH, zH, zH, zH]) rfl ?_
  refine z_seq (S' := zr _ _ :: _) rfl ?_
  refine z_astore F dX1_falls_5 (Nat.le_of_ble_eq_true rfl) ?_
  refine z_leq (L' := [_, _, _, _, _, _, _, _, _, _, _, _, _]) rfl ?_
  refine z_foc F j hj hP (N := 22) (M := 23) (L' := [_, _, _, _, some (zr 22 0), _, _, _, _, _, _, _, _]) (S' := []) rfl rfl (Nat.le_of_ble_eq_true rfl) ⟨rfl, trivial, trivial, trivial, trivial, trivial, trivial, trivial, trivial, trivial, trivial, trivial, trivial, trivial, trivial, trivial, trivial, trivial, trivial, trivial, trivial, trivial⟩ ⟨Or.inl rfl, Or.inl rfl, Or.inl rfl, Or.inl rfl, Or.inr ⟨rfl, rfl⟩, Or.inl rfl, Or.inl rfl, Or.inl rfl, Or.inl rfl, Or.inl rfl, Or.inl rfl, Or.inl rfl, Or.inl rfl, trivial⟩ rfl trivial rfl ?_
  refine z_weq (w' := [zPl _ _, zO _ [zr _ _, zr _ _, zr _ _, zr _ _, zr _ _, zi _, zi _, zr _ _, zr _ _], zH, zH, zH, zH, zH, zH, zH, zH, zH, zH, zH, zH, zH, zH, zH, zH, zH, zH, zH, zH, zO _ [zi _, zi _, zr _ _], zAi 0 24 _]) rfl ?_
  refine z_iload_n F dX1_falls_7 rfl ?_
  refine z_if_eq F (tgt := 16) dX1_falls_8 (by decide) (fun c_8 => ?_) (fun c_8 => ?_)
  · exact absurd c_8 hk.1
  · refine z_iload_n F dX1_falls_11 rfl ?_
    refine z_iconst F (nI 1) dX1_falls_12 rfl ?_
    refine z_icmp_ne F (tgt := 20) dX1_falls_13 (by decide) (fun c_13 => ?_) (fun c_13 => ?_)
    · refine z_iconstB F false dX1_falls_20 rfl ?_
      refine z_callS F (c_fnd false) 1 rfl (lw_S q433 q434 q109 q435) (by decide +kernel) ⟨Nat.le_of_ble_eq_true rfl, Nat.le_of_ble_eq_true rfl⟩ ⟨by omega, by omega⟩ [0] 24 ⟨rfl, rfl, rfl, ⟨Or.inl rfl, trivial⟩⟩ (fun h => nomatch h) (Nat.le_of_ble_eq_true rfl) ⟨⟨Or.inr (by first | exact ⟨rfl, pR_B _ (by decide)⟩ | exact ⟨rfl, uR_B (by decide) (by decide)⟩), Or.inr rfl, Or.inr trivial, Or.inr trivial, Or.inr trivial, Or.inr trivial, Or.inr trivial, Or.inr trivial, Or.inr trivial, Or.inr trivial, Or.inr trivial, Or.inr trivial, Or.inr trivial, Or.inr trivial, Or.inr trivial, Or.inr trivial, Or.inr trivial, Or.inr trivial, Or.inr trivial, Or.inr trivial, Or.inr trivial, Or.inr trivial, Or.inr rfl, Or.inr trivial, trivial⟩, rfl, rfl, rfl, Nat.le_of_ble_eq_true rfl⟩ rfl rfl dX1_falls_21 (fun r_21 w_21 hp => ?_) (fun E_ w_ hx => by obtain ⟨rfl, hb, rfl⟩ := hx; exact zx_pub F rfl E hno j 22 23 hj hP rfl rfl (Nat.le_of_ble_eq_true rfl) (Nat.le_of_ble_eq_true rfl) (Nat.le_of_ble_eq_true rfl) _ rfl ⟨rfl, trivial, trivial, trivial, trivial, trivial, trivial, trivial, trivial, trivial, trivial, trivial, trivial, trivial, trivial, trivial, trivial, trivial, trivial, trivial, trivial, trivial⟩ (Nat.le_of_ble_eq_true rfl) (by omega) (by omega) (⟨rfl, trivial, rfl⟩))
      exact nomatch hp.2.1
    · exact absurd c_13 hk.2
theorem c_pfalls_badM (P : zPt) (t : Nat) (fp : Int32) (j n d kind : Nat) (f : Nat → Int32) (many : Int32) (hj : j < 8) (h : nok n d f) (hP : P j = some (nI n, nI d, f)) (hk : kind < 2) (hx : inB many (nI 0) (nI 2) = false) : zCtr yX1_falls cX1_falls 13 (some .int) 8 8 160 [zr 1 0, zi (nI j), zi (nI kind), zi many] (xH P t fp) (fun r v => False) (fun E w => E = eIAE ∧ True ∧ w = xH P t fp) := by
  refine z_start (by decide) [some (zr 1 0), some (zi (nI j)), some (zi (nI kind)), some (zi many), none, none, none, none, none, none, none, none, none] rfl (fun _ => Nat.le_of_ble_eq_true rfl) (fun _ => rfl) (fun X F E hno hin => ?_)
  refine z_aload_n F dX1_falls_0 rfl ?_
  refine z_iload_n F dX1_falls_1 rfl ?_
  refine z_callV F (c_netAt_ok P t fp j hj hP) 1 rfl (lw_V q429 q431 qs0 q109 q432) (by decide +kernel) ⟨Nat.le_of_ble_eq_true rfl, Nat.le_of_ble_eq_true rfl⟩ ⟨by omega, by omega⟩ [0, 1, 2, 3, 4, 5, 6, 7, 8, 9, 10, 11, 12, 13, 14, 15, 16, 17, 18, 19, 20, 21] 22 ⟨rfl, rfl, rfl, ⟨Or.inr (congrArg some (zrnP rfl).symm), Or.inr rfl, Or.inl rfl, Or.inl rfl, Or.inl rfl, Or.inl rfl, Or.inl rfl, Or.inl rfl, Or.inl rfl, Or.inl rfl, Or.inl rfl, Or.inl rfl, Or.inl rfl, Or.inl rfl, Or.inl rfl, Or.inl rfl, Or.inl rfl, Or.inl rfl, Or.inl rfl, Or.inl rfl, Or.inl rfl, Or.inl rfl, trivial⟩⟩ (fun _ => rfl) (Nat.le_of_ble_eq_true rfl) ⟨⟨Or.inl rfl, Or.inl rfl, Or.inr trivial, Or.inr trivial, Or.inr trivial, Or.inr trivial, Or.inr trivial, Or.inr trivial, Or.inr trivial, Or.inr trivial, Or.inr trivial, Or.inr trivial, Or.inr trivial, Or.inr trivial, Or.inr trivial, Or.inr trivial, Or.inr trivial, Or.inr trivial, Or.inr trivial, Or.inr trivial, Or.inr trivial, Or.inr trivial, trivial⟩, rfl, rfl, rfl, Nat.le_of_ble_eq_true rfl⟩ rfl zC1 rfl rfl dX1_falls_2 (fun r_2 w_2 hp => ?_) (fun _ _ h => h.elim)
  obtain ⟨rfl, rfl⟩ := hp
  refine z_weq (w' := zPl (pR _) _ :: _) (congrArg (fun z => z :: _) (zrnP rfl)) ?_
  refine z_weq (w' := [zPl _ _, zO _ [zr _ _, zr _ _, zr _ _, zr _ _, zr _ _, zi _, zi _, zr _ _, zr _ _], zH, zH, zH, zH, zH, zH, zH, zH, zH, zH, zH, zH, zH, zH, zH, zH, zH, zH, zH, zH]) rfl ?_
  refine z_seq (S' := zr _ _ :: _) rfl ?_
  refine z_astore F dX1_falls_5 (Nat.le_of_ble_eq_true rfl) ?_
  refine z_leq (L' := [_, _, _, _, _, _, _, _, _, _, _, _, _]) rfl ?_
  refine z_foc F j hj hP (N := 22) (M := 23) (L' := [_, _, _, _, some (zr 22 0), _, _, _, _, _, _, _, _]) (S' := []) rfl rfl (Nat.le_of_ble_eq_true rfl) ⟨rfl, trivial, trivial, trivial, trivial, trivial, trivial, trivial, trivial, trivial, trivial, trivial, trivial, trivial, trivial, trivial, trivial, trivial, trivial, trivial, trivial, trivial⟩ ⟨Or.inl rfl, Or.inl rfl, Or.inl rfl, Or.inl rfl, Or.inr ⟨rfl, rfl⟩, Or.inl rfl, Or.inl rfl, Or.inl rfl, Or.inl rfl, Or.inl rfl, Or.inl rfl, Or.inl rfl, Or.inl rfl, trivial⟩ rfl trivial rfl ?_
  refine z_weq (w' := [zPl _ _, zO _ [zr _ _, zr _ _, zr _ _, zr _ _, zr _ _, zi _, zi _, zr _ _, zr _ _], zH, zH, zH, zH, zH, zH, zH, zH, zH, zH, zH, zH, zH, zH, zH, zH, zH, zH, zH, zH, zO _ [zi _, zi _, zr _ _], zAi 0 24 _]) rfl ?_
  refine z_iload_n F dX1_falls_7 rfl ?_
  refine z_if_eqN F (by omega) (tgt := 16) dX1_falls_8 (by decide) (fun c_8 => ?_) (fun c_8 => ?_)
  · refine z_iconstB F true dX1_falls_16 rfl ?_
    refine z_goto F (tgt := 21) dX1_falls_17 (by decide) ?_
    refine z_callS F (c_fnd true) 1 rfl (lw_S q433 q434 q109 q435) (by decide +kernel) ⟨Nat.le_of_ble_eq_true rfl, Nat.le_of_ble_eq_true rfl⟩ ⟨by omega, by omega⟩ [0] 24 ⟨rfl, rfl, rfl, ⟨Or.inl rfl, trivial⟩⟩ (fun h => nomatch h) (Nat.le_of_ble_eq_true rfl) ⟨⟨Or.inr (by first | exact ⟨rfl, pR_B _ (by decide)⟩ | exact ⟨rfl, uR_B (by decide) (by decide)⟩), Or.inr rfl, Or.inr trivial, Or.inr trivial, Or.inr trivial, Or.inr trivial, Or.inr trivial, Or.inr trivial, Or.inr trivial, Or.inr trivial, Or.inr trivial, Or.inr trivial, Or.inr trivial, Or.inr trivial, Or.inr trivial, Or.inr trivial, Or.inr trivial, Or.inr trivial, Or.inr trivial, Or.inr trivial, Or.inr trivial, Or.inr trivial, Or.inr rfl, Or.inr trivial, trivial⟩, rfl, rfl, rfl, Nat.le_of_ble_eq_true rfl⟩ rfl rfl dX1_falls_21 (fun r_21 w_21 hp => ?_) (fun E_ w_ hx => by obtain ⟨-, hb, -⟩ := hx; cases hb)
    obtain ⟨rfl, -, rfl⟩ := hp
    refine z_weq (w' := [zPl _ _, zO _ [zr _ _, zr _ _, zr _ _, zr _ _, zr _ _, zi _, zi _, zr _ _, zr _ _], zH, zH, zH, zH, zH, zH, zH, zH, zH, zH, zH, zH, zH, zH, zH, zH, zH, zH, zH, zH, zO _ [zi _, zi _, zr _ _], zAi 0 24 _]) rfl ?_
    refine z_seq (S' := []) rfl ?_
    refine z_iload_n F dX1_falls_24 rfl ?_
    refine z_iconst F (nI 0) dX1_falls_25 rfl ?_
    refine z_iconst F (nI 2) dX1_falls_26 rfl ?_
    refine z_callS F (c_in many (nI 0) (nI 2)) 3 rfl (lw_S q349 q350 q109 q351) (by decide +kernel) ⟨Nat.le_of_ble_eq_true rfl, Nat.le_of_ble_eq_true rfl⟩ ⟨by omega, by omega⟩ [0] 24 ⟨rfl, rfl, rfl, ⟨Or.inl rfl, trivial⟩⟩ (fun h => nomatch h) (Nat.le_of_ble_eq_true rfl) ⟨⟨Or.inr (by first | exact ⟨rfl, pR_B _ (by decide)⟩ | exact ⟨rfl, uR_B (by decide) (by decide)⟩), Or.inr rfl, Or.inr trivial, Or.inr trivial, Or.inr trivial, Or.inr trivial, Or.inr trivial, Or.inr trivial, Or.inr trivial, Or.inr trivial, Or.inr trivial, Or.inr trivial, Or.inr trivial, Or.inr trivial, Or.inr trivial, Or.inr trivial, Or.inr trivial, Or.inr trivial, Or.inr trivial, Or.inr trivial, Or.inr trivial, Or.inr trivial, Or.inr rfl, Or.inr trivial, trivial⟩, rfl, rfl, rfl, Nat.le_of_ble_eq_true rfl⟩ rfl rfl dX1_falls_27 (fun r_27 w_27 hp => ?_) (fun _ _ h => h.elim)
    obtain ⟨rfl, rfl⟩ := hp
    refine z_weq (w' := [zPl _ _, zO _ [zr _ _, zr _ _, zr _ _, zr _ _, zr _ _, zi _, zi _, zr _ _, zr _ _], zH, zH, zH, zH, zH, zH, zH, zH, zH, zH, zH, zH, zH, zH, zH, zH, zH, zH, zH, zH, zO _ [zi _, zi _, zr _ _], zAi 0 24 _]) rfl ?_
    refine z_seq (S' := zi _ :: _) rfl ?_
    rw [hx]
    refine z_callS F (c_rgt false) 1 rfl (lw_S q538 q539 q109 q540) (by decide +kernel) ⟨Nat.le_of_ble_eq_true rfl, Nat.le_of_ble_eq_true rfl⟩ ⟨by omega, by omega⟩ [0] 24 ⟨rfl, rfl, rfl, ⟨Or.inl rfl, trivial⟩⟩ (fun h => nomatch h) (Nat.le_of_ble_eq_true rfl) ⟨⟨Or.inr (by first | exact ⟨rfl, pR_B _ (by decide)⟩ | exact ⟨rfl, uR_B (by decide) (by decide)⟩), Or.inr rfl, Or.inr trivial, Or.inr trivial, Or.inr trivial, Or.inr trivial, Or.inr trivial, Or.inr trivial, Or.inr trivial, Or.inr trivial, Or.inr trivial, Or.inr trivial, Or.inr trivial, Or.inr trivial, Or.inr trivial, Or.inr trivial, Or.inr trivial, Or.inr trivial, Or.inr trivial, Or.inr trivial, Or.inr trivial, Or.inr trivial, Or.inr rfl, Or.inr trivial, trivial⟩, rfl, rfl, rfl, Nat.le_of_ble_eq_true rfl⟩ rfl rfl dX1_falls_30 (fun r_30 w_30 hp => ?_) (fun E_ w_ hx => by obtain ⟨rfl, hb, rfl⟩ := hx; exact zx_pub F rfl E hno j 22 23 hj hP rfl rfl (Nat.le_of_ble_eq_true rfl) (Nat.le_of_ble_eq_true rfl) (Nat.le_of_ble_eq_true rfl) _ rfl ⟨rfl, trivial, trivial, trivial, trivial, trivial, trivial, trivial, trivial, trivial, trivial, trivial, trivial, trivial, trivial, trivial, trivial, trivial, trivial, trivial, trivial, trivial⟩ (Nat.le_of_ble_eq_true rfl) (by omega) (by omega) (⟨rfl, trivial, rfl⟩))
    exact nomatch hp.2.1
  · refine z_iload_n F dX1_falls_11 rfl ?_
    refine z_iconst F (nI 1) dX1_falls_12 rfl ?_
    refine z_icmp_neN F (by omega) (by omega) (tgt := 20) dX1_falls_13 (by decide) (fun c_13 => ?_) (fun c_13 => ?_)
    · exact absurd c_13 (by omega)
    · refine z_iconstB F true dX1_falls_16 rfl ?_
      refine z_goto F (tgt := 21) dX1_falls_17 (by decide) ?_
      refine z_callS F (c_fnd true) 1 rfl (lw_S q433 q434 q109 q435) (by decide +kernel) ⟨Nat.le_of_ble_eq_true rfl, Nat.le_of_ble_eq_true rfl⟩ ⟨by omega, by omega⟩ [0] 24 ⟨rfl, rfl, rfl, ⟨Or.inl rfl, trivial⟩⟩ (fun h => nomatch h) (Nat.le_of_ble_eq_true rfl) ⟨⟨Or.inr (by first | exact ⟨rfl, pR_B _ (by decide)⟩ | exact ⟨rfl, uR_B (by decide) (by decide)⟩), Or.inr rfl, Or.inr trivial, Or.inr trivial, Or.inr trivial, Or.inr trivial, Or.inr trivial, Or.inr trivial, Or.inr trivial, Or.inr trivial, Or.inr trivial, Or.inr trivial, Or.inr trivial, Or.inr trivial, Or.inr trivial, Or.inr trivial, Or.inr trivial, Or.inr trivial, Or.inr trivial, Or.inr trivial, Or.inr trivial, Or.inr trivial, Or.inr rfl, Or.inr trivial, trivial⟩, rfl, rfl, rfl, Nat.le_of_ble_eq_true rfl⟩ rfl rfl dX1_falls_21 (fun r_21 w_21 hp => ?_) (fun E_ w_ hx => by obtain ⟨-, hb, -⟩ := hx; cases hb)
      obtain ⟨rfl, -, rfl⟩ := hp
      refine z_weq (w' := [zPl _ _, zO _ [zr _ _, zr _ _, zr _ _, zr _ _, zr _ _, zi _, zi _, zr _ _, zr _ _], zH, zH, zH, zH, zH, zH, zH, zH, zH, zH, zH, zH, zH, zH, zH, zH, zH, zH, zH, zH, zO _ [zi _, zi _, zr _ _], zAi 0 24 _]) rfl ?_
      refine z_seq (S' := []) rfl ?_
      refine z_iload_n F dX1_falls_24 rfl ?_
      refine z_iconst F (nI 0) dX1_falls_25 rfl ?_
      refine z_iconst F (nI 2) dX1_falls_26 rfl ?_
      refine z_callS F (c_in many (nI 0) (nI 2)) 3 rfl (lw_S q349 q350 q109 q351) (by decide +kernel) ⟨Nat.le_of_ble_eq_true rfl, Nat.le_of_ble_eq_true rfl⟩ ⟨by omega, by omega⟩ [0] 24 ⟨rfl, rfl, rfl, ⟨Or.inl rfl, trivial⟩⟩ (fun h => nomatch h) (Nat.le_of_ble_eq_true rfl) ⟨⟨Or.inr (by first | exact ⟨rfl, pR_B _ (by decide)⟩ | exact ⟨rfl, uR_B (by decide) (by decide)⟩), Or.inr rfl, Or.inr trivial, Or.inr trivial, Or.inr trivial, Or.inr trivial, Or.inr trivial, Or.inr trivial, Or.inr trivial, Or.inr trivial, Or.inr trivial, Or.inr trivial, Or.inr trivial, Or.inr trivial, Or.inr trivial, Or.inr trivial, Or.inr trivial, Or.inr trivial, Or.inr trivial, Or.inr trivial, Or.inr trivial, Or.inr trivial, Or.inr rfl, Or.inr trivial, trivial⟩, rfl, rfl, rfl, Nat.le_of_ble_eq_true rfl⟩ rfl rfl dX1_falls_27 (fun r_27 w_27 hp => ?_) (fun _ _ h => h.elim)
      obtain ⟨rfl, rfl⟩ := hp
      refine z_weq (w' := [zPl _ _, zO _ [zr _ _, zr _ _, zr _ _, zr _ _, zr _ _, zi _, zi _, zr _ _, zr _ _], zH, zH, zH, zH, zH, zH, zH, zH, zH, zH, zH, zH, zH, zH, zH, zH, zH, zH, zH, zH, zO _ [zi _, zi _, zr _ _], zAi 0 24 _]) rfl ?_
      refine z_seq (S' := zi _ :: _) rfl ?_
      rw [hx]
      refine z_callS F (c_rgt false) 1 rfl (lw_S q538 q539 q109 q540) (by decide +kernel) ⟨Nat.le_of_ble_eq_true rfl, Nat.le_of_ble_eq_true rfl⟩ ⟨by omega, by omega⟩ [0] 24 ⟨rfl, rfl, rfl, ⟨Or.inl rfl, trivial⟩⟩ (fun h => nomatch h) (Nat.le_of_ble_eq_true rfl) ⟨⟨Or.inr (by first | exact ⟨rfl, pR_B _ (by decide)⟩ | exact ⟨rfl, uR_B (by decide) (by decide)⟩), Or.inr rfl, Or.inr trivial, Or.inr trivial, Or.inr trivial, Or.inr trivial, Or.inr trivial, Or.inr trivial, Or.inr trivial, Or.inr trivial, Or.inr trivial, Or.inr trivial, Or.inr trivial, Or.inr trivial, Or.inr trivial, Or.inr trivial, Or.inr trivial, Or.inr trivial, Or.inr trivial, Or.inr trivial, Or.inr trivial, Or.inr trivial, Or.inr rfl, Or.inr trivial, trivial⟩, rfl, rfl, rfl, Nat.le_of_ble_eq_true rfl⟩ rfl rfl dX1_falls_30 (fun r_30 w_30 hp => ?_) (fun E_ w_ hx => by obtain ⟨rfl, hb, rfl⟩ := hx; exact zx_pub F rfl E hno j 22 23 hj hP rfl rfl (Nat.le_of_ble_eq_true rfl) (Nat.le_of_ble_eq_true rfl) (Nat.le_of_ble_eq_true rfl) _ rfl ⟨rfl, trivial, trivial, trivial, trivial, trivial, trivial, trivial, trivial, trivial, trivial, trivial, trivial, trivial, trivial, trivial, trivial, trivial, trivial, trivial, trivial, trivial⟩ (Nat.le_of_ble_eq_true rfl) (by omega) (by omega) (⟨rfl, trivial, rfl⟩))
      exact nomatch hp.2.1
abbrev xLs (P : zPt) (t : Nat) (fp : Int32) (e9 e10 : zE) : List zE := [zPl (pR P) P, xO t fp, zH, zH, zH, zH, zH, zH, zH, e9, e10, zH, zH, zH, zH, zH, zH, zH, zH, zH, zH, zH]
theorem c_pfallen (Dg : va_G) (P : zPt) (t : Nat) (fp : Int32) (m0 : Int32) (c i x : Nat) (g : Nat → Value) (hi : i < c) (hc : c ≤ 2) (hx : x < 128) (hg : g i = .ref (Dg.2 1000 (x + 128))) : zCtrD Dg yX1_fallen cX1_fallen 2 (some .int) 8 1 6 [zr 1 0, zi (nI i)] (xLs P t fp (eLs m0 c (zr 10 0)) (zAv 10 g)) (fun r w => r = some (zi (nI x)) ∧ w = xLs P t fp (eLs m0 c (zr 10 0)) (zAv 10 g)) zNx := by
  refine z_startD (by decide) [some (zr 1 0), some (zi (nI i))] rfl (fun _ => Nat.le_of_ble_eq_true rfl) (fun _ => rfl) (fun X hD F E hno hin => ?_)
  subst hD
  refine z_iload_n F dX1_fallen_0 rfl ?_
  refine z_iconst F (nI 0) dX1_fallen_1 rfl ?_
  refine z_aload_n F dX1_fallen_2 rfl ?_
  refine z_get F zC1 (f := 4) rfl (Nat.le_of_ble_eq_true rfl) q318 rfl dX1_fallen_3 ?_
  refine z_callF F (c_Jsize _ m0 c (zr 2 0)) 0 rfl (lw_F q1181 q1186 q1184 q114 q1188) (zF3 F) (by decide +kernel) ⟨Nat.le_of_ble_eq_true rfl, Nat.le_of_ble_eq_true rfl⟩ ⟨by omega, by omega⟩ [0, 9, 10] 22 ⟨rfl, rfl, rfl, ⟨Or.inl rfl, Or.inr rfl, Or.inl rfl, trivial⟩⟩ (fun h => nomatch h) (Nat.le_of_ble_eq_true rfl) ⟨⟨Or.inr (by first | exact ⟨rfl, pR_B _ (by decide)⟩ | exact ⟨rfl, uR_B (by decide) (by decide)⟩), Or.inr rfl, Or.inr trivial, Or.inr trivial, Or.inr trivial, Or.inr trivial, Or.inr trivial, Or.inr trivial, Or.inr trivial, Or.inl rfl, Or.inr (fun _ => rfl), Or.inr trivial, Or.inr trivial, Or.inr trivial, Or.inr trivial, Or.inr trivial, Or.inr trivial, Or.inr trivial, Or.inr trivial, Or.inr trivial, Or.inr trivial, Or.inr trivial, trivial⟩, rfl, rfl, rfl, Nat.le_of_ble_eq_true rfl⟩ rfl rfl rfl dX1_fallen_6 (fun r_6 w_6 hp => ?_) (fun _ _ h => h.elim)
  obtain ⟨rfl, rfl⟩ := hp
  refine z_weq (w' := [zPl _ _, zO _ [zr _ _, zr _ _, zr _ _, zr _ _, zr _ _, zi _, zi _, zr _ _, zr _ _], zH, zH, zH, zH, zH, zH, zH, zO _ [zi _, zr _ _, zi _], zAr _ 10 _, zH, zH, zH, zH, zH, zH, zH, zH, zH, zH, zH]) rfl ?_
  refine z_seq (S' := zi _ :: _) rfl ?_
  refine z_iconst F (nI 1) dX1_fallen_11 rfl ?_
  refine z_isub F dX1_fallen_12 ?_
  refine z_callS F (c_in (nI i) (nI 0) (nI c - nI 1)) 3 rfl (lw_S q349 q350 q109 q351) (by decide +kernel) ⟨Nat.le_of_ble_eq_true rfl, Nat.le_of_ble_eq_true rfl⟩ ⟨by omega, by omega⟩ [0] 22 ⟨rfl, rfl, rfl, ⟨Or.inl rfl, trivial⟩⟩ (fun h => nomatch h) (Nat.le_of_ble_eq_true rfl) ⟨⟨Or.inr (by first | exact ⟨rfl, pR_B _ (by decide)⟩ | exact ⟨rfl, uR_B (by decide) (by decide)⟩), Or.inr rfl, Or.inr trivial, Or.inr trivial, Or.inr trivial, Or.inr trivial, Or.inr trivial, Or.inr trivial, Or.inr trivial, Or.inr rfl, Or.inr (fun _ => rfl), Or.inr trivial, Or.inr trivial, Or.inr trivial, Or.inr trivial, Or.inr trivial, Or.inr trivial, Or.inr trivial, Or.inr trivial, Or.inr trivial, Or.inr trivial, Or.inr trivial, trivial⟩, rfl, rfl, rfl, Nat.le_of_ble_eq_true rfl⟩ rfl rfl dX1_fallen_13 (fun r_13 w_13 hp => ?_) (fun _ _ h => h.elim)
  obtain ⟨rfl, rfl⟩ := hp
  refine z_weq (w' := [zPl _ _, zO _ [zr _ _, zr _ _, zr _ _, zr _ _, zr _ _, zi _, zi _, zr _ _, zr _ _], zH, zH, zH, zH, zH, zH, zH, zO _ [zi _, zr _ _, zi _], zAr _ 10 _, zH, zH, zH, zH, zH, zH, zH, zH, zH, zH, zH]) rfl ?_
  refine z_seq (S' := zi _ :: _) rfl ?_
  rw [inB_len2 (by omega) hi]
  refine z_callS F (c_fnd true) 1 rfl (lw_S q433 q434 q109 q435) (by decide +kernel) ⟨Nat.le_of_ble_eq_true rfl, Nat.le_of_ble_eq_true rfl⟩ ⟨by omega, by omega⟩ [0] 22 ⟨rfl, rfl, rfl, ⟨Or.inl rfl, trivial⟩⟩ (fun h => nomatch h) (Nat.le_of_ble_eq_true rfl) ⟨⟨Or.inr (by first | exact ⟨rfl, pR_B _ (by decide)⟩ | exact ⟨rfl, uR_B (by decide) (by decide)⟩), Or.inr rfl, Or.inr trivial, Or.inr trivial, Or.inr trivial, Or.inr trivial, Or.inr trivial, Or.inr trivial, Or.inr trivial, Or.inr rfl, Or.inr (fun _ => rfl), Or.inr trivial, Or.inr trivial, Or.inr trivial, Or.inr trivial, Or.inr trivial, Or.inr trivial, Or.inr trivial, Or.inr trivial, Or.inr trivial, Or.inr trivial, Or.inr trivial, trivial⟩, rfl, rfl, rfl, Nat.le_of_ble_eq_true rfl⟩ rfl rfl dX1_fallen_16 (fun r_16 w_16 hp => ?_) (fun E_ w_ hx => by obtain ⟨-, hb, -⟩ := hx; cases hb)
  obtain ⟨rfl, -, rfl⟩ := hp
  refine z_weq (w' := [zPl _ _, zO _ [zr _ _, zr _ _, zr _ _, zr _ _, zr _ _, zi _, zi _, zr _ _, zr _ _], zH, zH, zH, zH, zH, zH, zH, zO _ [zi _, zr _ _, zi _], zAr _ 10 _, zH, zH, zH, zH, zH, zH, zH, zH, zH, zH, zH]) rfl ?_
  refine z_seq (S' := []) rfl ?_
  refine z_aload_n F dX1_fallen_19 rfl ?_
  refine z_get F zC1 (f := 4) rfl (Nat.le_of_ble_eq_true rfl) q318 rfl dX1_fallen_20 ?_
  refine z_iload_n F dX1_fallen_23 rfl ?_
  refine z_callF F (c_Jget _ m0 c i _ g hi (by omega) hg) 1 rfl (lw_F q1190 q1195 q1193 q114 q1197) (zF2 F) (by decide +kernel) ⟨Nat.le_of_ble_eq_true rfl, Nat.le_of_ble_eq_true rfl⟩ ⟨by omega, by omega⟩ [0, 9, 10] 22 ⟨rfl, rfl, rfl, ⟨Or.inl rfl, Or.inr rfl, Or.inr rfl, trivial⟩⟩ (fun h => nomatch h) (Nat.le_of_ble_eq_true rfl) ⟨⟨Or.inr (by first | exact ⟨rfl, pR_B _ (by decide)⟩ | exact ⟨rfl, uR_B (by decide) (by decide)⟩), Or.inr rfl, Or.inr trivial, Or.inr trivial, Or.inr trivial, Or.inr trivial, Or.inr trivial, Or.inr trivial, Or.inr trivial, Or.inl rfl, Or.inl rfl, Or.inr trivial, Or.inr trivial, Or.inr trivial, Or.inr trivial, Or.inr trivial, Or.inr trivial, Or.inr trivial, Or.inr trivial, Or.inr trivial, Or.inr trivial, Or.inr trivial, trivial⟩, rfl, rfl, rfl, Nat.le_of_ble_eq_true rfl⟩ rfl rfl rfl dX1_fallen_24 (fun r_24 w_24 hp => ?_) (fun _ _ h => h.elim)
  obtain ⟨rfl, rfl⟩ := hp
  refine z_weq (w' := [zPl _ _, zO _ [zr _ _, zr _ _, zr _ _, zr _ _, zr _ _, zi _, zi _, zr _ _, zr _ _], zH, zH, zH, zH, zH, zH, zH, zO _ [zi _, zr _ _, zi _], zAr _ 10 _, zH, zH, zH, zH, zH, zH, zH, zH, zH, zH, zH]) rfl ?_
  refine z_seq (S' := zq _ :: _) rfl ?_
  refine z_castQ F (F.con.2.2.2.1.1 (x + 128) (by omega)) q1206 dX1_fallen_29 ?_
  refine z_callVR F (c_JintValue _ x hx) 0 rfl (lw_V q1207 q1208 q1209 q123 q1210) (by decide +kernel) ⟨Nat.le_of_ble_eq_true rfl, Nat.le_of_ble_eq_true rfl⟩ ⟨by omega, by omega⟩ [0] 22 ⟨rfl, rfl, rfl, ⟨Or.inl rfl, trivial⟩⟩ (fun h => nomatch h) (Nat.le_of_ble_eq_true rfl) ⟨⟨Or.inr (by first | exact ⟨rfl, pR_B _ (by decide)⟩ | exact ⟨rfl, uR_B (by decide) (by decide)⟩), Or.inr rfl, Or.inr trivial, Or.inr trivial, Or.inr trivial, Or.inr trivial, Or.inr trivial, Or.inr trivial, Or.inr trivial, Or.inr rfl, Or.inr (fun _ => rfl), Or.inr trivial, Or.inr trivial, Or.inr trivial, Or.inr trivial, Or.inr trivial, Or.inr trivial, Or.inr trivial, Or.inr trivial, Or.inr trivial, Or.inr trivial, Or.inr trivial, trivial⟩, rfl, rfl, rfl, Nat.le_of_ble_eq_true rfl⟩ rfl (F.con.2.2.2.1.1 (x + 128) (by omega)) rfl dX1_fallen_32 (fun r_32 w_32 hp => ?_) (fun _ _ h => h.elim)
  obtain ⟨rfl, rfl⟩ := hp
  refine z_weq (w' := [zPl _ _, zO _ [zr _ _, zr _ _, zr _ _, zr _ _, zr _ _, zi _, zi _, zr _ _, zr _ _], zH, zH, zH, zH, zH, zH, zH, zO _ [zi _, zr _ _, zi _], zAr _ 10 _, zH, zH, zH, zH, zH, zH, zH, zH, zH, zH, zH]) rfl ?_
  refine z_seq (S' := zi _ :: _) rfl ?_
  exact z_iret F E rfl dX1_fallen_35 (by omega) (by omega) (⟨rfl, rfl⟩)
theorem inB_lenF {N : Nat} (hN : N < 2 ^ 31) {x : Int32} (h : ∀ i, i < N → ¬ x = nI i) : inB x (nI 0) (nI N - 1) = false := by
  cases hb : inB x (nI 0) (nI N - 1) with
  | false => rfl
  | true =>
    obtain ⟨i, hi, e⟩ := inB_len hN hb
    exact absurd e (h i hi)
theorem c_pfallen_badA (Dg : va_G) (P : zPt) (t : Nat) (fp : Int32) (m0 x : Int32) (a : Nat) : zCtrD Dg yX1_fallen cX1_fallen 2 (some .int) 8 1 6 [zr 1 0, zi x] (xLs P t fp (eLs m0 0 (zq a)) zH) (fun r w => False) (fun E w => E = eNSE ∧ True ∧ w = xLs P t fp (eLs m0 0 (zq a)) zH) := by
  refine z_startD (by decide) [some (zr 1 0), some (zi x)] rfl (fun _ => Nat.le_of_ble_eq_true rfl) (fun _ => rfl) (fun X hD F E hno hin => ?_)
  subst hD
  refine z_iload_n F dX1_fallen_0 rfl ?_
  refine z_iconst F (nI 0) dX1_fallen_1 rfl ?_
  refine z_aload_n F dX1_fallen_2 rfl ?_
  refine z_get F zC1 (f := 4) rfl (Nat.le_of_ble_eq_true rfl) q318 rfl dX1_fallen_3 ?_
  refine z_callF F (c_Jsize _ m0 0 (zq a)) 0 rfl (lw_F q1181 q1186 q1184 q114 q1188) (zF3 F) (by decide +kernel) ⟨Nat.le_of_ble_eq_true rfl, Nat.le_of_ble_eq_true rfl⟩ ⟨by omega, by omega⟩ [0, 9, 10] 22 ⟨rfl, rfl, rfl, ⟨Or.inl rfl, Or.inr rfl, Or.inl rfl, trivial⟩⟩ (fun h => nomatch h) (Nat.le_of_ble_eq_true rfl) ⟨⟨Or.inr (by first | exact ⟨rfl, pR_B _ (by decide)⟩ | exact ⟨rfl, uR_B (by decide) (by decide)⟩), Or.inr rfl, Or.inr trivial, Or.inr trivial, Or.inr trivial, Or.inr trivial, Or.inr trivial, Or.inr trivial, Or.inr trivial, Or.inl rfl, Or.inr trivial, Or.inr trivial, Or.inr trivial, Or.inr trivial, Or.inr trivial, Or.inr trivial, Or.inr trivial, Or.inr trivial, Or.inr trivial, Or.inr trivial, Or.inr trivial, Or.inr trivial, trivial⟩, rfl, rfl, rfl, Nat.le_of_ble_eq_true rfl⟩ rfl rfl rfl dX1_fallen_6 (fun r_6 w_6 hp => ?_) (fun _ _ h => h.elim)
  obtain ⟨rfl, rfl⟩ := hp
  refine z_weq (w' := [zPl _ _, zO _ [zr _ _, zr _ _, zr _ _, zr _ _, zr _ _, zi _, zi _, zr _ _, zr _ _], zH, zH, zH, zH, zH, zH, zH, zO _ [zi _, zq _, zi _], zH, zH, zH, zH, zH, zH, zH, zH, zH, zH, zH, zH]) rfl ?_
  refine z_seq (S' := zi _ :: _) rfl ?_
  refine z_iconst F (nI 1) dX1_fallen_11 rfl ?_
  refine z_isub F dX1_fallen_12 ?_
  refine z_callS F (c_in x (nI 0) (nI 0 - nI 1)) 3 rfl (lw_S q349 q350 q109 q351) (by decide +kernel) ⟨Nat.le_of_ble_eq_true rfl, Nat.le_of_ble_eq_true rfl⟩ ⟨by omega, by omega⟩ [0] 22 ⟨rfl, rfl, rfl, ⟨Or.inl rfl, trivial⟩⟩ (fun h => nomatch h) (Nat.le_of_ble_eq_true rfl) ⟨⟨Or.inr (by first | exact ⟨rfl, pR_B _ (by decide)⟩ | exact ⟨rfl, uR_B (by decide) (by decide)⟩), Or.inr rfl, Or.inr trivial, Or.inr trivial, Or.inr trivial, Or.inr trivial, Or.inr trivial, Or.inr trivial, Or.inr trivial, Or.inr rfl, Or.inr trivial, Or.inr trivial, Or.inr trivial, Or.inr trivial, Or.inr trivial, Or.inr trivial, Or.inr trivial, Or.inr trivial, Or.inr trivial, Or.inr trivial, Or.inr trivial, Or.inr trivial, trivial⟩, rfl, rfl, rfl, Nat.le_of_ble_eq_true rfl⟩ rfl rfl dX1_fallen_13 (fun r_13 w_13 hp => ?_) (fun _ _ h => h.elim)
  obtain ⟨rfl, rfl⟩ := hp
  refine z_weq (w' := [zPl _ _, zO _ [zr _ _, zr _ _, zr _ _, zr _ _, zr _ _, zi _, zi _, zr _ _, zr _ _], zH, zH, zH, zH, zH, zH, zH, zO _ [zi _, zq _, zi _], zH, zH, zH, zH, zH, zH, zH, zH, zH, zH, zH, zH]) rfl ?_
  refine z_seq (S' := zi _ :: _) rfl ?_
  rw [show inB x (nI 0) (nI 0 - nI 1) = false from inB_lenF (by omega) (fun i hi => absurd hi (by omega))]
  refine z_callS F (c_fnd false) 1 rfl (lw_S q433 q434 q109 q435) (by decide +kernel) ⟨Nat.le_of_ble_eq_true rfl, Nat.le_of_ble_eq_true rfl⟩ ⟨by omega, by omega⟩ [0] 22 ⟨rfl, rfl, rfl, ⟨Or.inl rfl, trivial⟩⟩ (fun h => nomatch h) (Nat.le_of_ble_eq_true rfl) ⟨⟨Or.inr (by first | exact ⟨rfl, pR_B _ (by decide)⟩ | exact ⟨rfl, uR_B (by decide) (by decide)⟩), Or.inr rfl, Or.inr trivial, Or.inr trivial, Or.inr trivial, Or.inr trivial, Or.inr trivial, Or.inr trivial, Or.inr trivial, Or.inr rfl, Or.inr trivial, Or.inr trivial, Or.inr trivial, Or.inr trivial, Or.inr trivial, Or.inr trivial, Or.inr trivial, Or.inr trivial, Or.inr trivial, Or.inr trivial, Or.inr trivial, Or.inr trivial, trivial⟩, rfl, rfl, rfl, Nat.le_of_ble_eq_true rfl⟩ rfl rfl dX1_fallen_16 (fun r_16 w_16 hp => ?_) (fun E_ w_ hx => by obtain ⟨rfl, hb, rfl⟩ := hx; exact zx_out F E hno (by omega) (by omega) (⟨rfl, trivial, rfl⟩))
  exact nomatch hp.2.1
theorem c_pfallen_badB (Dg : va_G) (P : zPt) (t : Nat) (fp : Int32) (m0 x : Int32) (c : Nat) (g : Nat → Value) (hc : c ≤ 2) (hx : ∀ i, i < c → ¬ x = nI i) : zCtrD Dg yX1_fallen cX1_fallen 2 (some .int) 8 1 6 [zr 1 0, zi x] (xLs P t fp (eLs m0 c (zr 10 0)) (zAv 10 g)) (fun r w => False) (fun E w => E = eNSE ∧ True ∧ w = xLs P t fp (eLs m0 c (zr 10 0)) (zAv 10 g)) := by
  refine z_startD (by decide) [some (zr 1 0), some (zi x)] rfl (fun _ => Nat.le_of_ble_eq_true rfl) (fun _ => rfl) (fun X hD F E hno hin => ?_)
  subst hD
  refine z_iload_n F dX1_fallen_0 rfl ?_
  refine z_iconst F (nI 0) dX1_fallen_1 rfl ?_
  refine z_aload_n F dX1_fallen_2 rfl ?_
  refine z_get F zC1 (f := 4) rfl (Nat.le_of_ble_eq_true rfl) q318 rfl dX1_fallen_3 ?_
  refine z_callF F (c_Jsize _ m0 c (zr 2 0)) 0 rfl (lw_F q1181 q1186 q1184 q114 q1188) (zF3 F) (by decide +kernel) ⟨Nat.le_of_ble_eq_true rfl, Nat.le_of_ble_eq_true rfl⟩ ⟨by omega, by omega⟩ [0, 9, 10] 22 ⟨rfl, rfl, rfl, ⟨Or.inl rfl, Or.inr rfl, Or.inl rfl, trivial⟩⟩ (fun h => nomatch h) (Nat.le_of_ble_eq_true rfl) ⟨⟨Or.inr (by first | exact ⟨rfl, pR_B _ (by decide)⟩ | exact ⟨rfl, uR_B (by decide) (by decide)⟩), Or.inr rfl, Or.inr trivial, Or.inr trivial, Or.inr trivial, Or.inr trivial, Or.inr trivial, Or.inr trivial, Or.inr trivial, Or.inl rfl, Or.inr (fun _ => rfl), Or.inr trivial, Or.inr trivial, Or.inr trivial, Or.inr trivial, Or.inr trivial, Or.inr trivial, Or.inr trivial, Or.inr trivial, Or.inr trivial, Or.inr trivial, Or.inr trivial, trivial⟩, rfl, rfl, rfl, Nat.le_of_ble_eq_true rfl⟩ rfl rfl rfl dX1_fallen_6 (fun r_6 w_6 hp => ?_) (fun _ _ h => h.elim)
  obtain ⟨rfl, rfl⟩ := hp
  refine z_weq (w' := [zPl _ _, zO _ [zr _ _, zr _ _, zr _ _, zr _ _, zr _ _, zi _, zi _, zr _ _, zr _ _], zH, zH, zH, zH, zH, zH, zH, zO _ [zi _, zr _ _, zi _], zAr _ 10 _, zH, zH, zH, zH, zH, zH, zH, zH, zH, zH, zH]) rfl ?_
  refine z_seq (S' := zi _ :: _) rfl ?_
  refine z_iconst F (nI 1) dX1_fallen_11 rfl ?_
  refine z_isub F dX1_fallen_12 ?_
  refine z_callS F (c_in x (nI 0) (nI c - nI 1)) 3 rfl (lw_S q349 q350 q109 q351) (by decide +kernel) ⟨Nat.le_of_ble_eq_true rfl, Nat.le_of_ble_eq_true rfl⟩ ⟨by omega, by omega⟩ [0] 22 ⟨rfl, rfl, rfl, ⟨Or.inl rfl, trivial⟩⟩ (fun h => nomatch h) (Nat.le_of_ble_eq_true rfl) ⟨⟨Or.inr (by first | exact ⟨rfl, pR_B _ (by decide)⟩ | exact ⟨rfl, uR_B (by decide) (by decide)⟩), Or.inr rfl, Or.inr trivial, Or.inr trivial, Or.inr trivial, Or.inr trivial, Or.inr trivial, Or.inr trivial, Or.inr trivial, Or.inr rfl, Or.inr (fun _ => rfl), Or.inr trivial, Or.inr trivial, Or.inr trivial, Or.inr trivial, Or.inr trivial, Or.inr trivial, Or.inr trivial, Or.inr trivial, Or.inr trivial, Or.inr trivial, Or.inr trivial, trivial⟩, rfl, rfl, rfl, Nat.le_of_ble_eq_true rfl⟩ rfl rfl dX1_fallen_13 (fun r_13 w_13 hp => ?_) (fun _ _ h => h.elim)
  obtain ⟨rfl, rfl⟩ := hp
  refine z_weq (w' := [zPl _ _, zO _ [zr _ _, zr _ _, zr _ _, zr _ _, zr _ _, zi _, zi _, zr _ _, zr _ _], zH, zH, zH, zH, zH, zH, zH, zO _ [zi _, zr _ _, zi _], zAr _ 10 _, zH, zH, zH, zH, zH, zH, zH, zH, zH, zH, zH]) rfl ?_
  refine z_seq (S' := zi _ :: _) rfl ?_
  rw [show inB x (nI 0) (nI c - nI 1) = false from inB_lenF (by omega) hx]
  refine z_callS F (c_fnd false) 1 rfl (lw_S q433 q434 q109 q435) (by decide +kernel) ⟨Nat.le_of_ble_eq_true rfl, Nat.le_of_ble_eq_true rfl⟩ ⟨by omega, by omega⟩ [0] 22 ⟨rfl, rfl, rfl, ⟨Or.inl rfl, trivial⟩⟩ (fun h => nomatch h) (Nat.le_of_ble_eq_true rfl) ⟨⟨Or.inr (by first | exact ⟨rfl, pR_B _ (by decide)⟩ | exact ⟨rfl, uR_B (by decide) (by decide)⟩), Or.inr rfl, Or.inr trivial, Or.inr trivial, Or.inr trivial, Or.inr trivial, Or.inr trivial, Or.inr trivial, Or.inr trivial, Or.inr rfl, Or.inr (fun _ => rfl), Or.inr trivial, Or.inr trivial, Or.inr trivial, Or.inr trivial, Or.inr trivial, Or.inr trivial, Or.inr trivial, Or.inr trivial, Or.inr trivial, Or.inr trivial, Or.inr trivial, trivial⟩, rfl, rfl, rfl, Nat.le_of_ble_eq_true rfl⟩ rfl rfl dX1_fallen_16 (fun r_16 w_16 hp => ?_) (fun E_ w_ hx => by obtain ⟨rfl, hb, rfl⟩ := hx; exact zx_out F E hno (by omega) (by omega) (⟨rfl, trivial, rfl⟩))
  exact nomatch hp.2.1
end C9yr
end
section
/-! read: words, numbers and signs of a tape -/
section C9ys
def rnF (p : Nat → Bool) (n : Nat) : Nat → Nat → Nat
  | 0, b => b
  | m + 1, b => if b < n ∧ p b = true then rnF p n m (b + 1) else b
/-- the first place from b on where p doesn't hold -/
def rn (p : Nat → Bool) (n b : Nat) : Nat := rnF p n (n - b) b
theorem rn_stop {p : Nat → Bool} {n b : Nat} (h : ¬ (b < n ∧ p b = true)) : rn p n b = b := by
  unfold rn
  cases n - b with
  | zero => rfl
  | succ m => rw [rnF, if_neg h]
theorem rn_step {p : Nat → Bool} {n b : Nat} (h1 : b < n) (h2 : p b = true) : rn p n b = rn p n (b + 1) := by
  unfold rn
  rw [show n - b = (n - (b + 1)) + 1 by omega, rnF, if_pos ⟨h1, h2⟩]
theorem rn_ge {p : Nat → Bool} {n : Nat} : ∀ (m b : Nat), n - b ≤ m → b ≤ rn p n b ∧ (b ≤ n → rn p n b ≤ n) ∧ (∀ k, b ≤ k → k < rn p n b → p k = true ∧ k < n) ∧ ¬ (rn p n b < n ∧ p (rn p n b) = true)
  | 0, b, h => by
    have e : rn p n b = b := rn_stop (fun z => by omega)
    rw [e]
    exact ⟨Nat.le_refl _, fun z => z, fun k h1 h2 => by omega, fun z => by omega⟩
  | m + 1, b, h => by
    by_cases q : b < n ∧ p b = true
    · rw [rn_step q.1 q.2]
      obtain ⟨a, b1_, c, e⟩ := rn_ge (p := p) (n := n) m (b + 1) (by omega)
      refine ⟨by omega, fun _ => b1_ (by omega), fun k h1 h2 => ?_, e⟩
      by_cases e2 : k = b
      · rw [e2]; exact ⟨q.2, q.1⟩
      · exact c k (by omega) h2
    · rw [rn_stop q]
      exact ⟨Nat.le_refl _, fun z => z, fun k h1 h2 => by omega, q⟩
def isS (c : Nat) : Bool := decide (c = 32) || decide (c = 10)
def isL (c : Nat) : Bool := decide (97 ≤ c ∧ c ≤ 122)
def isD (c : Nat) : Bool := decide (48 ≤ c ∧ c ≤ 57)
def sk (tb : Nat → Nat) (n b : Nat) : Nat := rn (fun k => isS (tb k)) n b
def kd (tb : Nat → Nat) (n b : Nat) : Nat := if n ≤ b then 0 else if isL (tb b) = true then 1 else if isD (tb b) = true then 2 else if tb b = 59 then 3 else 4
def en (tb : Nat → Nat) (n b : Nat) : Nat := if n ≤ b then b else if isL (tb b) = true then rn (fun k => isL (tb k)) n b else if isD (tb b) = true then rn (fun k => isD (tb k)) n b else b + 1
/-- the next token's begin -/
def nb (tb : Nat → Nat) (n b : Nat) : Nat := sk tb n (en tb n b)
theorem sk_ge (tb : Nat → Nat) (n b : Nat) : b ≤ sk tb n b ∧ (b ≤ n → sk tb n b ≤ n) := ⟨(rn_ge (n - b) b (Nat.le_refl _)).1, (rn_ge (n - b) b (Nat.le_refl _)).2.1⟩
theorem en_ge (tb : Nat → Nat) (n b : Nat) : b ≤ en tb n b ∧ (b ≤ n → en tb n b ≤ n) := by
  unfold en
  split
  · exact ⟨Nat.le_refl _, fun z => z⟩
  · split
    · exact ⟨(rn_ge (n - b) b (Nat.le_refl _)).1, (rn_ge (n - b) b (Nat.le_refl _)).2.1⟩
    · split
      · exact ⟨(rn_ge (n - b) b (Nat.le_refl _)).1, (rn_ge (n - b) b (Nat.le_refl _)).2.1⟩
      · exact ⟨by omega, fun _ => by omega⟩
theorem en_gt {tb : Nat → Nat} {n b : Nat} (h : b < n) : b < en tb n b := by
  unfold en
  rw [if_neg (by omega)]
  split
  · rename_i q
    rw [rn_step h q]
    have := (rn_ge (p := fun k => isL (tb k)) (n - (b + 1)) (b + 1) (Nat.le_refl _)).1
    omega
  · split
    · rename_i q
      rw [rn_step h q]
      have := (rn_ge (p := fun k => isD (tb k)) (n - (b + 1)) (b + 1) (Nat.le_refl _)).1
      omega
    · omega
theorem nb_le {tb : Nat → Nat} {n b : Nat} (h : b ≤ n) : nb tb n b ≤ n := (sk_ge tb n _).2 ((en_ge tb n b).2 h)
theorem kd_lt (tb : Nat → Nat) (n b : Nat) : kd tb n b < 5 := by
  unfold kd
  split
  · omega
  · split
    · omega
    · split
      · omega
      · split <;> omega
/-- a word's first seven letters, five bits each -/
def wcd (tb : Nat → Nat) (b : Nat) : Nat → Nat
  | 0 => 0
  | m + 1 => if m < 7 then wcd tb b m * 32 + (tb (b + m) - 96) else wcd tb b m
theorem wcd_lt (tb : Nat → Nat) (b : Nat) : ∀ m, (∀ k, k < m → isL (tb (b + k)) = true) → wcd tb b m < 32 ^ (min m 7)
  | 0, _ => by decide
  | m + 1, h => by
    have ih := wcd_lt tb b m (fun k hk => h k (by omega))
    have hl := h m (by omega)
    unfold isL at hl
    rw [decide_eq_true_eq] at hl
    rw [wcd]
    split
    · rename_i q
      rw [show min m 7 = m by omega] at ih
      rw [show min (m + 1) 7 = m + 1 by omega, Nat.pow_succ]
      omega
    · rename_i q
      rw [show min m 7 = 7 by omega] at ih
      rw [show min (m + 1) 7 = 7 by omega]
      exact ih
theorem wcd_pos {tb : Nat → Nat} {b : Nat} : ∀ {m}, 0 < m → m ≤ 7 → (∀ k, k < m → isL (tb (b + k)) = true) → 0 < wcd tb b m
  | 0, h, _, _ => by omega
  | m + 1, _, h7, h => by
    have hl := h m (by omega)
    unfold isL at hl
    rw [decide_eq_true_eq] at hl
    rw [wcd, if_pos (by omega)]
    omega
theorem wcd_inj {tb W : Nat → Nat} {b : Nat} : ∀ {m L}, m ≤ 7 → L ≤ 7 → (∀ k, k < m → isL (tb (b + k)) = true) → (∀ k, k < L → isL (W (0 + k)) = true) → (wcd tb b m = wcd W 0 L ↔ m = L ∧ ∀ k, k < m → tb (b + k) = W k)
  | 0, 0, _, _, _, _ => ⟨fun _ => ⟨rfl, fun k hk => absurd hk (by omega)⟩, fun _ => rfl⟩
  | 0, L + 1, _, h7, _, hW => ⟨fun z => by have := wcd_pos (tb := W) (b := 0) (m := L + 1) (by omega) h7 hW; rw [← z] at this; exact absurd this (by rw [wcd]; omega), fun z => absurd z.1 (by omega)⟩
  | m + 1, 0, h7, _, hb, _ => ⟨fun z => by have := wcd_pos (tb := tb) (b := b) (m := m + 1) (by omega) h7 hb; rw [z] at this; exact absurd this (by rw [wcd]; omega), fun z => absurd z.1 (by omega)⟩
  | m + 1, L + 1, h7, h8, hb, hW => by
    have ih := wcd_inj (tb := tb) (W := W) (b := b) (m := m) (L := L) (by omega) (by omega) (fun k hk => hb k (by omega)) (fun k hk => hW k (by omega))
    have h1 := hb m (by omega)
    have h2 := hW L (by omega)
    unfold isL at h1 h2
    rw [decide_eq_true_eq] at h1 h2
    rw [Nat.zero_add] at h2
    rw [wcd, if_pos (by omega), wcd, if_pos (by omega), Nat.zero_add]
    constructor
    · intro z
      have e1 : wcd tb b m = wcd W 0 L := by omega
      obtain ⟨e2, e3⟩ := ih.mp e1
      refine ⟨by omega, fun k hk => ?_⟩
      by_cases q : k = m
      · subst q; rw [← e2] at z h2; rw [← e2] at e1; omega
      · exact e3 k (by omega)
    · rintro ⟨e1, e2⟩
      have e3 : m = L := by omega
      subst e3
      have e4 := ih.mpr ⟨rfl, fun k hk => e2 k (by omega)⟩
      rw [e4, e2 m (by omega)]
/-- a number's first three digits; the same, with all its digits, up to 10000 -/
def rvd (tb : Nat → Nat) (b : Nat) : Nat → Nat
  | 0 => 0
  | m + 1 => if m < 3 then rvd tb b m * 10 + (tb (b + m) - 48) else rvd tb b m
def nvd (tb : Nat → Nat) (b : Nat) : Nat → Nat
  | 0 => 0
  | m + 1 => min 10000 (10 * nvd tb b m + (tb (b + m) - 48))
theorem rvd_lt {tb : Nat → Nat} {b : Nat} : ∀ m, (∀ k, k < m → isD (tb (b + k)) = true) → rvd tb b m < 10 ^ (min m 3)
  | 0, _ => by decide
  | m + 1, h => by
    have ih := rvd_lt (tb := tb) (b := b) m (fun k hk => h k (by omega))
    have hl := h m (by omega)
    unfold isD at hl
    rw [decide_eq_true_eq] at hl
    rw [rvd]
    split
    · rw [show min m 3 = m by omega] at ih
      rw [show min (m + 1) 3 = m + 1 by omega, Nat.pow_succ]
      omega
    · rw [show min m 3 = 3 by omega] at ih
      rw [show min (m + 1) 3 = 3 by omega]
      exact ih
theorem nvd_le {tb : Nat → Nat} {b : Nat} : ∀ m, nvd tb b m ≤ 10000
  | 0 => by rw [nvd]; omega
  | m + 1 => by rw [nvd]; exact Nat.min_le_left _ _
theorem rvd_999 {tb : Nat → Nat} {b m : Nat} (h : ∀ k, k < m → isD (tb (b + k)) = true) : rvd tb b m < 1000 := by
  have h1 := rvd_lt m h
  have h2 : 10 ^ min m 3 ≤ 10 ^ 3 := Nat.pow_le_pow_right (by decide) (by omega)
  omega
theorem nvd_rvd {tb : Nat → Nat} {b : Nat} : ∀ m, m ≤ 3 → (∀ k, k < m → isD (tb (b + k)) = true) → nvd tb b m = rvd tb b m
  | 0, _, _ => rfl
  | m + 1, hm, h => by
    have ih := nvd_rvd (tb := tb) (b := b) m (by omega) (fun k hk => h k (by omega))
    have h3 := rvd_999 (tb := tb) (b := b) (m := m + 1) h
    rw [rvd, if_pos (by omega)] at h3 ⊢
    rw [nvd, ih]
    omega
/-- a number token's value -/
def rv (tb : Nat → Nat) (n b : Nat) : Nat := rvd tb b (en tb n b - b)
theorem tk_D {tb : Nat → Nat} {n b : Nat} (h : kd tb n b = 2) : b < n ∧ isL (tb b) = false ∧ en tb n b = rn (fun k => isD (tb k)) n b ∧ ∀ k, k < en tb n b - b → isD (tb (b + k)) = true := by
  unfold kd at h
  split at h
  · omega
  · split at h
    · omega
    · split at h
      · rename_i q1 q2 q3
        have e : en tb n b = rn (fun k => isD (tb k)) n b := by unfold en; rw [if_neg q1, if_neg q2, if_pos q3]
        refine ⟨by omega, ff_of q2, e, fun k hk => ?_⟩
        rw [e] at hk
        exact ((rn_ge (p := fun k => isD (tb k)) (n - b) b (Nat.le_refl _)).2.2.1 (b + k) (by omega) (by omega)).1
      · split at h <;> omega
theorem tk_L {tb : Nat → Nat} {n b : Nat} (h : kd tb n b = 1) : b < n ∧ isL (tb b) = true ∧ en tb n b = rn (fun k => isL (tb k)) n b ∧ ∀ k, k < en tb n b - b → isL (tb (b + k)) = true := by
  unfold kd at h
  split at h
  · omega
  · split at h
    · rename_i q1 q2
      have e : en tb n b = rn (fun k => isL (tb k)) n b := by unfold en; rw [if_neg q1, if_pos q2]
      refine ⟨by omega, q2, e, fun k hk => ?_⟩
      rw [e] at hk
      exact ((rn_ge (p := fun k => isL (tb k)) (n - b) b (Nat.le_refl _)).2.2.1 (b + k) (by omega) (by omega)).1
    · split at h
      · omega
      · split at h <;> omega
/-- the known words: row ring all star off knots degree -/
def kwL (i : Nat) : Nat := match i with
  | 0 => 3 | 1 => 4 | 2 => 3 | 3 => 4 | 4 => 3 | 5 => 5 | _ => 6
def kwW (i : Nat) : Nat → Nat := fun k => ((match i with
  | 0 => [114, 111, 119] | 1 => [114, 105, 110, 103] | 2 => [97, 108, 108] | 3 => [115, 116, 97, 114] | 4 => [111, 102, 102] | 5 => [107, 110, 111, 116, 115] | _ => [100, 101, 103, 114, 101, 101]) : List Nat).getD k 97
def kwC (i : Nat) : Nat := match i with
  | 0 => 18935 | 1 => 599495 | 2 => 1420 | 3 => 643122 | 4 => 15558 | 5 => 12009107 | _ => 139708581
theorem kw_ok : ∀ i, i < 7 → kwC i = wcd (kwW i) 0 (kwL i) ∧ kwL i ≤ 6 ∧ ∀ k, k < 7 → isL (kwW i (0 + k)) = true := by decide +kernel
theorem kw_ne : ∀ i, i < 7 → ∀ j, j < 7 → kwC i = kwC j → i = j := by decide +kernel
/-- the token is the i-th word -/
def isW (tb : Nat → Nat) (n b i : Nat) : Prop := kd tb n b = 1 ∧ en tb n b - b = kwL i ∧ ∀ k, k < kwL i → tb (b + k) = kwW i k
theorem isW_iff {tb : Nat → Nat} {n b i : Nat} (hi : i < 7) : isW tb n b i ↔ kd tb n b = 1 ∧ en tb n b - b ≤ 6 ∧ wcd tb b (en tb n b - b) = kwC i := by
  obtain ⟨k1, k2, k3⟩ := kw_ok i hi
  unfold isW
  constructor
  · rintro ⟨a, e, c⟩
    have hL := (tk_L a).2.2.2
    refine ⟨a, by omega, ?_⟩
    rw [k1]
    exact (wcd_inj (by omega) (by omega) hL (fun k hk => k3 k (by omega))).mpr ⟨e, fun k hk => c k (by omega)⟩
  · rintro ⟨a, e, c⟩
    have hL := (tk_L a).2.2.2
    rw [k1] at c
    obtain ⟨c1, c2⟩ := (wcd_inj (by omega) (by omega) hL (fun k hk => k3 k (by omega))).mp c
    exact ⟨a, c1, fun k hk => c2 k (by omega)⟩
theorem isW_one {tb : Nat → Nat} {n b i j : Nat} (hi : i < 7) (hj : j < 7) (h1 : isW tb n b i) (h2 : isW tb n b j) : i = j := kw_ne i hi j hj (((isW_iff hi).mp h1).2.2.symm.trans ((isW_iff hj).mp h2).2.2)
noncomputable def isWb (tb : Nat → Nat) (n b i : Nat) : Bool := @decide (isW tb n b i) (Classical.propDecidable _)
theorem isWb_t {tb : Nat → Nat} {n b i : Nat} : isWb tb n b i = true ↔ isW tb n b i := dcp
end C9ys
end
