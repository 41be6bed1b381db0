/-! tell: the rounds of WiredNets -/
section C9yj
theorem un_not (x : Int32) (i : Nat) (hi : i < 32) : bt (x ^^^ (-1)) i = !bt x i := bt_not x hi
theorem neg_not {y : Int32} : -y = (y - nI 1) ^^^ (-1) := by
  refine Int32.toBitVec_inj.mp ?_
  rw [Int32.toBitVec_neg, Int32.toBitVec_xor, Int32.toBitVec_sub]
  show -y.toBitVec = (y.toBitVec - 1#32) ^^^ BitVec.allOnes 32
  rw [BitVec.xor_allOnes]
  refine BitVec.eq_of_toNat_eq ?_
  have h := y.toBitVec.isLt
  simp only [BitVec.toNat_neg, BitVec.toNat_not, BitVec.toNat_sub, BitVec.toNat_ofNat]
  omega
theorem neg_low {y : Int32} {i : Nat} (hi : i < 32) (h1 : bt y i = true) (h0 : ∀ j, j < i → bt y j = false) : y &&& (-y) = b1 i := by
  refine b_ext fun j hj => ?_
  rw [b_and, neg_not, bt_not _ hj, bt_pred hi h1 h0 j, bt_b1 hi]
  by_cases q : j < i
  · rw [if_pos q, h0 j q, decide_eq_false (by omega)]; rfl
  · rw [if_neg q]
    by_cases e : j = i
    · rw [e, h1, decide_eq_true rfl]; rfl
    · rw [decide_eq_false e]
      cases bt y j <;> rfl
def rS (f : Nat → Int32) (A T : Int32) (k : Nat) : Int32 := if bt A k = true then f k &&& (T ^^^ (-1)) else nI 0
theorem bt_rS {f : Nat → Int32} {A T : Int32} {k u : Nat} (hu : u < 32) : bt (rS f A T k) u = true ↔ bt A k = true ∧ bt (f k) u = true ∧ bt T u = false := by
  unfold rS
  by_cases q : bt A k = true
  · rw [if_pos q, b_and, bt_not _ hu, Bool.and_eq_true]
    constructor
    · rintro ⟨a, b⟩
      refine ⟨q, a, ?_⟩
      cases h : bt T u with
      | false => rfl
      | true => rw [h] at b; cases b
    · rintro ⟨-, a, b⟩
      exact ⟨a, by rw [b]; rfl⟩
  · rw [if_neg q]
    constructor
    · intro z
      rw [show bt (nI 0) u = false from b_0 u] at z; cases z
    · intro z
      exact absurd z.1 q
theorem gp_rS {n d : Nat} {f : Nat → Int32} (h : nok n d f) {A T C : Int32} {m k : Nat} (hk : k < n) : gP n f A (m + 1) k T C ↔ ((rS f A T k = 0 ∧ gP n f A m (k + 1) T C) ∨ ∃ u, u < 32 ∧ bt (rS f A T k) u = true ∧ gP n f A m (k + 1) (T ||| b1 u) C) := by
  have hn := h.n24
  show (((bt A k = true → ∀ u, u < n → bt (f k) u = true → bt T u = true) ∧ gP n f A m (k + 1) T C) ∨ (bt A k = true ∧ ∃ u, u < n ∧ bt (f k) u = true ∧ bt T u = false ∧ gP n f A m (k + 1) (T ||| b1 u) C)) ↔ _
  constructor
  · rintro (⟨a, b⟩ | ⟨a, u, hu, h1, h2, h3⟩)
    · refine Or.inl ⟨bt_zero.mpr fun i hi => ff_of fun z => ?_, b⟩
      obtain ⟨z1, z2, z3⟩ := (bt_rS hi).mp z
      rw [a z1 i (h.lt hk z2) z2] at z3; cases z3
    · exact Or.inr ⟨u, by omega, (bt_rS (by omega)).mpr ⟨a, h1, h2⟩, h3⟩
  · rintro (⟨a, b⟩ | ⟨u, hu, h1, h3⟩)
    · refine Or.inl ⟨fun hA u hu hf => ?_, b⟩
      cases hT : bt T u with
      | true => rfl
      | false =>
        have := (bt_rS (f := f) (show u < 32 by omega)).mpr ⟨hA, hf, hT⟩
        rw [a, show bt 0 u = false from b_0 u] at this; cases this
    · obtain ⟨z1, z2, z3⟩ := (bt_rS hu).mp h1
      exact Or.inr ⟨z1, u, h.lt hk z2, z2, z3, h3⟩
theorem updB {N : Nat → Bool} {t : Nat} : upd (fun c => bI (N c)) t (vp_nar .boolean (nI 1)) = fun c => bI (if c = t then true else N c) := by
  refine funext fun c => ?_
  show (if c = t then vp_nar .boolean (nI 1) else bI (N c)) = _
  by_cases e : c = t
  · rw [if_pos e, if_pos e]; rfl
  · rw [if_neg e, if_neg e]
abbrev wRd (n : Nat) (d : Int32) (f : Nat → Int32) (Nw Nx : Nat → Bool) : List zE := [zH, zO 14 [zr 2 0, zr 4 0, zr 5 0], eNet 3 (nI n) d, zAi 0 24 f, zAi 2 1024 (fun c => bI (Nw c)), zAi 2 1024 (fun c => bI (Nx c))]
def rgC (n : Nat) (d : Int32) (f : Nat → Int32) (m : Nat) : Prop := ∀ (s k t : Nat) (Nw Nx : Nat → Bool), k + m = n → s < 2 ^ n → t < 2 ^ n →
    zCtr yX14_go cX14_go 6 none m 0 0 [zr 1 0, zi (nI s), zi (nI k), zi (nI t)] (wRd n d f Nw Nx) (fun r w => r = none ∧ ∃ Nx', w = wRd n d f Nw Nx' ∧ ∀ c, c < 2 ^ n → (Nx' c = true ↔ (Nx c = true ∨ gP n f (nI s) m k (nI t) (nI c)))) zNx
theorem c_rgo (n d : Nat) (f : Nat → Int32) (h : nok n d f) (h10 : n ≤ 10) (m : Nat) : rgC n (nI d) f m := by
  have hp2 : 2 ^ n ≤ 2 ^ 10 := Nat.pow_le_pow_right (by decide) h10
  induction m with
  | zero =>
    intro s k t Nw Nx hk hs ht
    refine z_start (by decide) [some (zr 1 0), some (zi (nI s)), some (zi (nI k)), some (zi (nI t)), none, none] rfl (fun _ => Nat.le_of_ble_eq_true rfl) (fun _ => rfl) (fun X F E hno hin => ?_)
    refine z_iload_n F dX14_go_0 rfl ?_
    refine z_aload_n F dX14_go_1 rfl ?_
    refine z_get F zC14 (f := 0) rfl (Nat.le_of_ble_eq_true rfl) q1430 rfl dX14_go_2 ?_
    refine z_getN F zC5 (f := 0) rfl (Nat.le_of_ble_eq_true rfl) q242 rfl dX14_go_5 ?_
    refine z_icmp_neN F (by omega) (by omega) (tgt := 19) dX14_go_8 (by decide) (fun c_8 => ?_) (fun c_8 => ?_)
    · exact absurd (show k = n by omega) c_8
    · refine z_aload_n F dX14_go_11 rfl ?_
      refine z_get F zC14 (f := 2) rfl (Nat.le_of_ble_eq_true rfl) q1432 rfl dX14_go_12 ?_
      refine z_iload_n F dX14_go_15 rfl ?_
      refine z_iconst F (nI 1) dX14_go_16 rfl ?_
      refine z_zastN F rfl (Nat.le_of_ble_eq_true rfl) (by omega) dX14_go_17 ?_
      refine z_weq (w' := [_, _, _, _, _, _]) rfl ?_
      exact z_vret F E rfl dX14_go_18 (by omega) (by omega) (⟨rfl, fun c => if c = t then true else Nx c, by
  show _ = [zH, zO 14 [zr 2 0, zr 4 0, zr 5 0], eNet 3 (nI n) (nI d), zAi 0 24 f, zAi 2 1024 (fun c => bI (Nw c)), zAi 2 1024 (fun c => bI (if c = t then true else Nx c))]
  rw [← updB], fun c hc => by
  show (if c = t then true else Nx c) = true ↔ (Nx c = true ∨ nI c = nI t)
  rw [nI_eq (show c < 2 ^ 31 by omega) (show t < 2 ^ 31 by omega)]
  by_cases e : c = t
  · rw [if_pos e]; exact ⟨fun _ => Or.inr e, fun _ => rfl⟩
  · rw [if_neg e]; exact ⟨Or.inl, fun z => z.elim id (fun z => absurd z e)⟩⟩)
  -- the step
  | succ m rec =>
    intro s k t Nw Nx hk hs ht
    have hkn : k < n := by omega
    refine z_start (by decide) [some (zr 1 0), some (zi (nI s)), some (zi (nI k)), some (zi (nI t)), none, none] rfl (fun _ => Nat.le_of_ble_eq_true rfl) (fun _ => rfl) (fun X F E hno hin => ?_)
    have lp : ∀ (q j : Nat) (y : Int32) (N1 : Nat → Bool), pc32 y < q → upto (rS f (nI s) (nI t) k) j y → (∀ c, c < 2 ^ n → (N1 c = true ↔ (Nx c = true ∨ (rS f (nI s) (nI t) k = 0 ∧ gP n f (nI s) m (k + 1) (nI t) (nI c)) ∨ ∃ u, u < j ∧ u < 32 ∧ bt (rS f (nI s) (nI t) k) u = true ∧ gP n f (nI s) m (k + 1) (nI t ||| b1 u) (nI c)))) → Z X [some (zr 1 0), some (zi (nI s)), some (zi (nI k)), some (zi (nI t)), none, some (zi y)] [] (wRd n (nI d) f Nw N1) 0 0 65 := by
      intro q
      induction q with
      | zero => intro j y N1 hq; omega
      | succ q ih =>
        intro j y N1 hq hu hN
        refine z_iload F dX14_go_65 rfl ?_
        refine z_if_eq F (tgt := 98) dX14_go_67 (by decide) (fun c_67 => ?_) (fun c_67 => ?_)
        · subst c_67
          exact z_vret F E rfl dX14_go_98 (by omega) (by omega) (⟨rfl, N1, rfl, fun c hc => by
  rw [hN c hc, gp_rS h hkn]
  refine or_congr Iff.rfl (or_congr Iff.rfl ⟨fun ⟨u, _, h2, h3, h4⟩ => ⟨u, h2, h3, h4⟩, fun ⟨u, h2, h3, h4⟩ => ⟨u, ?_, h2, h3, h4⟩⟩)
  refine Nat.lt_of_not_le fun z => ?_
  rw [upto_end hu u z h2] at h3; cases h3⟩)
        · obtain ⟨i, hi, hji, hS, hSk, hy1, hy0, hu2, hpc⟩ := upto_low hu c_67
          have hin := (bt_rS hi).mp hS
          have hil := h.lt hkn hin.2.1
          obtain ⟨t', ht1, ht2⟩ := or_lt (s := t) (q := 2 ^ i) h.n24 ht (Nat.pow_lt_pow_right (by decide) hil)
          have hb : b1 i = nI (2 ^ i) := b1_nI (by have := h.n24; omega)
          refine z_aload_n F dX14_go_70 rfl ?_
          refine z_iload_n F dX14_go_71 rfl ?_
          refine z_iload_n F dX14_go_72 rfl ?_
          refine z_iconst F (nI 1) dX14_go_73 rfl ?_
          refine z_iaddN F dX14_go_74 ?_
          refine z_iload_n F dX14_go_75 rfl ?_
          refine z_iload F dX14_go_76 rfl ?_
          refine z_iload F dX14_go_78 rfl ?_
          refine z_ineg F dX14_go_80 ?_
          refine z_iand F dX14_go_81 ?_
          refine z_ior F dX14_go_82 ?_
          refine z_ieq ((by rw [neg_low hi hy1 hy0, hb]; exact ht2.symm : nI t ||| (y &&& (-y)) = nI t')) ?_
          refine z_callV F (rec s (k + 1) t' Nw N1 (by omega) hs ht1) 3 rfl (lw_V q1445 q1447 qs39 q142 q1448) (by decide +kernel) ⟨by omega, Nat.le_of_ble_eq_true rfl⟩ ⟨by omega, by omega⟩ [0, 1, 2, 3, 4, 5] 6 ⟨rfl, rfl, rfl, ⟨Or.inl rfl, Or.inr rfl, Or.inr rfl, Or.inr rfl, Or.inr rfl, Or.inr rfl, trivial⟩⟩ (fun h => nomatch h) (Nat.le_of_ble_eq_true rfl) ⟨⟨Or.inr trivial, Or.inl rfl, Or.inl rfl, Or.inl rfl, Or.inl rfl, Or.inl rfl, trivial⟩, rfl, rfl, rfl, Nat.le_of_ble_eq_true rfl⟩ rfl zC14 rfl rfl dX14_go_83 (fun r_83 w_83 hp => ?_) (fun _ _ h => h.elim)
          obtain ⟨rfl, N2, rfl, hN2⟩ := hp
          refine z_weq (w' := [zH, zO _ [zr _ _, zr _ _, zr _ _], zO _ [zi _, zi _, zr _ _], zAi 0 24 _, zAi 2 1024 _, zAi 2 1024 _]) rfl ?_
          refine z_seq (S' := []) rfl ?_
          refine z_iload F dX14_go_86 rfl ?_
          refine z_iload F dX14_go_88 rfl ?_
          refine z_iconst F (nI 1) dX14_go_90 rfl ?_
          refine z_isub F dX14_go_91 ?_
          refine z_iand F dX14_go_92 ?_
          refine z_istore F dX14_go_93 (Nat.le_of_ble_eq_true rfl) ?_
          refine z_leq (L' := [_, _, _, _, _, _]) rfl ?_
          refine z_goto F (tgt := 65) dX14_go_95 (by decide) ?_
          refine ih (i + 1) _ N2 (by omega) hu2 (fun c hc => ?_)
          rw [hN2 c hc, hN c hc, ht2, ← hb]
          constructor
          · rintro ((a | a | ⟨u, a1, a2, a3, a4⟩) | a)
            · exact Or.inl a
            · exact Or.inr (Or.inl a)
            · exact Or.inr (Or.inr ⟨u, by omega, a2, a3, a4⟩)
            · exact Or.inr (Or.inr ⟨i, by omega, hi, hS, a⟩)
          · rintro (a | a | ⟨u, a1, a2, a3, a4⟩)
            · exact Or.inl (Or.inl a)
            · exact Or.inl (Or.inr (Or.inl a))
            · by_cases e : u = i
              · rw [e] at a4; exact Or.inr a4
              · refine Or.inl (Or.inr (Or.inr ⟨u, ?_, a2, a3, a4⟩))
                refine Nat.lt_of_not_le fun z => ?_
                rw [hSk u z (by omega)] at a3; cases a3
    have at45 : ∀ S0, S0 = rS f (nI s) (nI t) k → Z X [some (zr 1 0), some (zi (nI s)), some (zi (nI k)), some (zi (nI t)), none, none] [zi S0] (wRd n (nI d) f Nw Nx) 0 0 45 := by
      intro S0 hS0
      have go : ∀ N1 : Nat → Bool, (∀ c, c < 2 ^ n → (N1 c = true ↔ (Nx c = true ∨ (S0 = 0 ∧ gP n f (nI s) m (k + 1) (nI t) (nI c))))) → Z X [some (zr 1 0), some (zi (nI s)), some (zi (nI k)), some (zi (nI t)), none, some (zi S0)] [] (wRd n (nI d) f Nw N1) 0 0 65 := by
        intro N1 hN1
        subst hS0
        refine lp (pc32 (rS f (nI s) (nI t) k) + 1) 0 _ N1 (by omega) (upto_0 _) (fun c hc => ?_)
        rw [hN1 c hc]
        exact ⟨fun z => z.elim Or.inl (fun z => Or.inr (Or.inl z)), fun z => z.elim Or.inl (fun z => z.elim Or.inr (fun ⟨u, a, _⟩ => absurd a (by omega)))⟩
      refine z_istore F dX14_go_45 (Nat.le_of_ble_eq_true rfl) ?_
      refine z_leq (L' := [_, _, _, _, _, _]) rfl ?_
      refine z_iload F dX14_go_47 rfl ?_
      refine z_if_ne F (tgt := 61) dX14_go_49 (by decide) (fun c_49 => ?_) (fun c_49 => ?_)
      · refine z_iload F dX14_go_61 rfl ?_
        refine z_istore F dX14_go_63 (Nat.le_of_ble_eq_true rfl) ?_
        refine z_leq (L' := [_, _, _, _, _, _]) rfl ?_
        refine z_loc _ ?_ (go Nx (fun c hc => ⟨Or.inl, fun z => z.elim id (fun z => absurd z.1 c_49)⟩))
        exact ⟨rfl, rfl, rfl, rfl, rfl, trivial⟩
      · refine z_aload_n F dX14_go_52 rfl ?_
        refine z_iload_n F dX14_go_53 rfl ?_
        refine z_iload_n F dX14_go_54 rfl ?_
        refine z_iconst F (nI 1) dX14_go_55 rfl ?_
        refine z_iaddN F dX14_go_56 ?_
        refine z_iload_n F dX14_go_57 rfl ?_
        refine z_callV F (rec s (k + 1) t Nw Nx (by omega) hs ht) 3 rfl (lw_V q1445 q1447 qs39 q142 q1448) (by decide +kernel) ⟨by omega, Nat.le_of_ble_eq_true rfl⟩ ⟨by omega, by omega⟩ [0, 1, 2, 3, 4, 5] 6 ⟨rfl, rfl, rfl, ⟨Or.inl rfl, Or.inr rfl, Or.inr rfl, Or.inr rfl, Or.inr rfl, Or.inr rfl, trivial⟩⟩ (fun h => nomatch h) (Nat.le_of_ble_eq_true rfl) ⟨⟨Or.inr trivial, Or.inl rfl, Or.inl rfl, Or.inl rfl, Or.inl rfl, Or.inl rfl, trivial⟩, rfl, rfl, rfl, Nat.le_of_ble_eq_true rfl⟩ rfl zC14 rfl rfl dX14_go_58 (fun r_58 w_58 hp => ?_) (fun _ _ h => h.elim)
        obtain ⟨rfl, N2, rfl, hN2⟩ := hp
        refine z_weq (w' := [zH, zO _ [zr _ _, zr _ _, zr _ _], zO _ [zi _, zi _, zr _ _], zAi 0 24 _, zAi 2 1024 _, zAi 2 1024 _]) rfl ?_
        refine z_seq (S' := []) rfl ?_
        refine z_iload F dX14_go_61 rfl ?_
        refine z_istore F dX14_go_63 (Nat.le_of_ble_eq_true rfl) ?_
        refine z_leq (L' := [_, _, _, _, _, _]) rfl ?_
        refine z_loc _ ?_ (go N2 (fun c hc => by rw [hN2 c hc]; exact or_congr Iff.rfl ⟨fun z => ⟨c_49, z⟩, fun z => z.2⟩))
        exact ⟨rfl, rfl, rfl, rfl, rfl, trivial⟩
    refine z_iload_n F dX14_go_0 rfl ?_
    refine z_aload_n F dX14_go_1 rfl ?_
    refine z_get F zC14 (f := 0) rfl (Nat.le_of_ble_eq_true rfl) q1430 rfl dX14_go_2 ?_
    refine z_getN F zC5 (f := 0) rfl (Nat.le_of_ble_eq_true rfl) q242 rfl dX14_go_5 ?_
    refine z_icmp_neN F (by omega) (by omega) (tgt := 19) dX14_go_8 (by decide) (fun c_8 => ?_) (fun c_8 => ?_)
    · refine z_iload_n F dX14_go_19 rfl ?_
      refine z_iload_n F dX14_go_20 rfl ?_
      refine z_ishr F dX14_go_21 ?_
      refine z_iconst F (nI 1) dX14_go_22 rfl ?_
      refine z_iandB F (by omega) dX14_go_23 ?_
      refine z_iconst F (nI 1) dX14_go_24 rfl ?_
      refine z_icmp_neB F (tgt := 44) dX14_go_25 (by decide) (fun c_25 => ?_) (fun c_25 => ?_)
      · refine z_iconst F (nI 0) dX14_go_44 rfl ?_
        exact at45 _ (by rw [rS, if_neg (by rw [c_25]; decide)])
      · refine z_aload_n F dX14_go_28 rfl ?_
        refine z_get F zC14 (f := 0) rfl (Nat.le_of_ble_eq_true rfl) q1430 rfl dX14_go_29 ?_
        refine z_getN F zC5 (f := 2) rfl (Nat.le_of_ble_eq_true rfl) q251 rfl dX14_go_32 ?_
        refine z_iload_n F dX14_go_35 rfl ?_
        refine z_ialdN F rfl (Nat.le_of_ble_eq_true rfl) (by omega) rfl dX14_go_36 ?_
        refine z_iload_n F dX14_go_37 rfl ?_
        refine z_iconst F (-1) dX14_go_38 rfl ?_
        refine z_ixor F dX14_go_39 ?_
        refine z_iand F dX14_go_40 ?_
        refine z_goto F (tgt := 45) dX14_go_41 (by decide) ?_
        exact at45 _ (by rw [rS, if_pos c_25])
    · exact absurd c_8 (by omega)
end C9yj
