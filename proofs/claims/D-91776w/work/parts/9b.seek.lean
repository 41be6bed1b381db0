/-! seek: what a set of moves is worth; Seek's look -/
section C9b
def skE (kd a b : Nat) (c : Int32) (p t : Nat) : Prop := t < a * b ∧ ∃ s, s < a * b ∧ bt c s = true ∧ t = gth kd a b p s
def mxO (D : Nat → Option Nat) : Nat → Nat
  | 0 => 0
  | t + 1 => max (mxO D t) ((D t).getD 0)
theorem mxO_le {D : Nat → Option Nat} : ∀ n t k, t < n → D t = some k → k ≤ mxO D n
  | 0, t, k, h, _ => by omega
  | n + 1, t, k, h, hk => by
    rw [mxO]
    by_cases e : t = n
    · subst e; rw [hk]; exact Nat.le_max_right _ _
    · exact Nat.le_trans (mxO_le n t k (by omega) hk) (Nat.le_max_left _ _)
theorem mxO_ge {D : Nat → Option Nat} {f : Nat} : ∀ n, (∀ t k, t < n → D t = some k → k ≤ f) → mxO D n ≤ f
  | 0, _ => Nat.zero_le _
  | n + 1, h => by
    rw [mxO]
    refine Nat.max_le.mpr ⟨mxO_ge n fun t k ht => h t k (by omega), ?_⟩
    cases e : D n with
    | none => exact Nat.zero_le _
    | some k => exact h n k (by omega) e
theorem mxO_eq {D : Nat → Option Nat} {f n t : Nat} (ht : t < n) (h1 : D t = some f) (h2 : ∀ t k, t < n → D t = some k → k ≤ f) : mxO D n = f := Nat.le_antisymm (mxO_ge n h2) (mxO_le n t f ht h1)
def smD (D : Nat → Option Nat) (n : Nat) : Nat := fb_sm (fun t => (D t).getD 0) n
noncomputable def skD (kd a b : Nat) (c : Int32) : Nat → Option Nat := Rv (skE kd a b c) 0
def alD (D : Nat → Option Nat) : Nat → Bool
  | 0 => true
  | n + 1 => alD D n && (D n).isSome
theorem alD_iff {D : Nat → Option Nat} : ∀ n, alD D n = true ↔ ∀ t, t < n → (D t).isSome = true
  | 0 => ⟨fun _ t h => (by omega), fun _ => rfl⟩
  | n + 1 => by
    rw [alD, Bool.and_eq_true, alD_iff n]
    constructor
    · rintro ⟨h1, h2⟩ t ht
      by_cases e : t = n
      · rw [e]; exact h2
      · exact h1 t (by omega)
    · exact fun h => ⟨fun t ht => h t (by omega), h n (by omega)⟩
noncomputable def skV (kd a b : Nat) (c : Int32) : Option (Nat × Nat) := if alD (skD kd a b c) (a * b) = true then some (mxO (skD kd a b c) (a * b), smD (skD kd a b c) (a * b)) else none
abbrev sBs : Type := Option (Int32 × Nat × Nat)
def kyN (f s : Nat) (c : Int32) : Nat := ((f * 1024 + s) * 64 + pc32 c) * 2147483648 + c.toNatClampNeg
def lkF (v : Option (Nat × Nat)) (c : Int32) (bs : sBs) : sBs := match v, bs with
  | none, bs => bs
  | some (f, s), none => some (c, f, s)
  | some (f, s), some (m, f0, s0) => if kyN f s c < kyN f0 s0 m then some (c, f, s) else some (m, f0, s0)
def skB (bs : sBs) (x y z : Int32) : Prop := match bs with
  | none => x = -1
  | some (m, f, s) => x = m ∧ y = nI f ∧ z = nI s ∧ f < 100 ∧ s < 1000 ∧ ∃ j, j < 2 ^ 31 ∧ m = nI j
theorem kyN_n (f s j : Nat) (hj : j < 2 ^ 31) : kyN f s (nI j) = ((f * 1024 + s) * 64 + pc32 (nI j)) * 2147483648 + j := by
  unfold kyN
  rw [zcl_n hj]
theorem c_skBet (f s j f0 s0 j0 : Nat) (v1 v2 v3 : Int32) (hf : f < 100) (hs : s < 1000) (hj : j < 2 ^ 31) (hf0 : f0 < 100) (hs0 : s0 < 1000) (hj0 : j0 < 2 ^ 31) : zCtr yX11_isBetter cX11_isBetter 6 (some .boolean) 1 0 0 [zr 1 0, zi (nI f), zi (nI s), zi (nI j)] [zH, zO 11 [zr 2 0, zi v1, zi v2, zr 3 0, zr 4 0, zr 5 0, zr 6 0, zi v3, zi (nI j0), zi (nI f0), zi (nI s0)], zH, zH, zH, zH, zH] (fun r w => r = some (zi (bI (decide (kyN f s (nI j) < kyN f0 s0 (nI j0))))) ∧ w = [zH, zO 11 [zr 2 0, zi v1, zi v2, zr 3 0, zr 4 0, zr 5 0, zr 6 0, zi v3, zi (nI j0), zi (nI f0), zi (nI s0)], zH, zH, zH, zH, zH]) zNx := by
  refine z_start (by decide) [some (zr 1 0), some (zi (nI f)), some (zi (nI s)), some (zi (nI j)), none, none] rfl (fun _ => Nat.le_of_ble_eq_true rfl) (fun _ => rfl) (fun X F E hno hin => ?_)
  have e1 := kyN_n f s j hj
  have e2 := kyN_n f0 s0 j0 hj0
  have p1 := pc32_le (nI j)
  have p2 := pc32_le (nI j0)
  refine z_iload_n F dX11_isBetter_0 rfl ?_
  refine z_aload_n F dX11_isBetter_1 rfl ?_
  refine z_get F zC11 (f := 9) rfl (Nat.le_of_ble_eq_true rfl) q973 rfl dX11_isBetter_2 ?_
  refine z_icmp_eqN F (by omega) (by omega) (tgt := 22) dX11_isBetter_5 (by decide) (fun c_5 => ?_) (fun c_5 => ?_)
  · refine z_iload_n F dX11_isBetter_22 rfl ?_
    refine z_aload_n F dX11_isBetter_23 rfl ?_
    refine z_get F zC11 (f := 10) rfl (Nat.le_of_ble_eq_true rfl) q974 rfl dX11_isBetter_24 ?_
    refine z_icmp_eqN F (by omega) (by omega) (tgt := 44) dX11_isBetter_27 (by decide) (fun c_27 => ?_) (fun c_27 => ?_)
    · refine z_iload_n F dX11_isBetter_44 rfl ?_
      refine z_callS F (c_bitCount (nI j)) 1 rfl (lw_S q1015 q395 q123 q396) (by decide +kernel) ⟨Nat.le_of_ble_eq_true rfl, Nat.le_of_ble_eq_true rfl⟩ ⟨by omega, by omega⟩ [0] 7 ⟨rfl, rfl, rfl, ⟨Or.inl rfl, trivial⟩⟩ (fun h => nomatch h) (Nat.le_of_ble_eq_true rfl) ⟨⟨Or.inr trivial, Or.inr rfl, Or.inr trivial, Or.inr trivial, Or.inr trivial, Or.inr trivial, Or.inr trivial, trivial⟩, rfl, rfl, rfl, Nat.le_of_ble_eq_true rfl⟩ rfl rfl dX11_isBetter_45 (fun r_45 w_45 hp => ?_) (fun _ _ h => h.elim)
      obtain ⟨rfl, rfl⟩ := hp
      refine z_weq (w' := [zH, zO _ [zr _ _, zi _, zi _, zr _ _, zr _ _, zr _ _, zr _ _, zi _, zi _, zi _, zi _], zH, zH, zH, zH, zH]) rfl ?_
      refine z_seq (S' := zi _ :: _) rfl ?_
      refine z_istore F dX11_isBetter_48 (Nat.le_of_ble_eq_true rfl) ?_
      refine z_leq (L' := [_, _, _, _, _, _]) rfl ?_
      refine z_aload_n F dX11_isBetter_50 rfl ?_
      refine z_get F zC11 (f := 8) rfl (Nat.le_of_ble_eq_true rfl) q972 rfl dX11_isBetter_51 ?_
      refine z_callS F (c_bitCount (nI j0)) 1 rfl (lw_S q1015 q395 q123 q396) (by decide +kernel) ⟨Nat.le_of_ble_eq_true rfl, Nat.le_of_ble_eq_true rfl⟩ ⟨by omega, by omega⟩ [0] 7 ⟨rfl, rfl, rfl, ⟨Or.inl rfl, trivial⟩⟩ (fun h => nomatch h) (Nat.le_of_ble_eq_true rfl) ⟨⟨Or.inr trivial, Or.inr rfl, Or.inr trivial, Or.inr trivial, Or.inr trivial, Or.inr trivial, Or.inr trivial, trivial⟩, rfl, rfl, rfl, Nat.le_of_ble_eq_true rfl⟩ rfl rfl dX11_isBetter_54 (fun r_54 w_54 hp => ?_) (fun _ _ h => h.elim)
      obtain ⟨rfl, rfl⟩ := hp
      refine z_weq (w' := [zH, zO _ [zr _ _, zi _, zi _, zr _ _, zr _ _, zr _ _, zr _ _, zi _, zi _, zi _, zi _], zH, zH, zH, zH, zH]) rfl ?_
      refine z_seq (S' := zi _ :: _) rfl ?_
      refine z_istore F dX11_isBetter_57 (Nat.le_of_ble_eq_true rfl) ?_
      refine z_leq (L' := [_, _, _, _, _, _]) rfl ?_
      refine z_iload F dX11_isBetter_59 rfl ?_
      refine z_iload F dX11_isBetter_61 rfl ?_
      refine z_icmp_eqN F (by omega) (by omega) (tgt := 81) dX11_isBetter_63 (by decide) (fun c_63 => ?_) (fun c_63 => ?_)
      · refine z_iload_n F dX11_isBetter_81 rfl ?_
        refine z_aload_n F dX11_isBetter_82 rfl ?_
        refine z_get F zC11 (f := 8) rfl (Nat.le_of_ble_eq_true rfl) q972 rfl dX11_isBetter_83 ?_
        refine z_icmp_geN F (by omega) (by omega) (tgt := 93) dX11_isBetter_86 (by decide) (fun c_86 => ?_) (fun c_86 => ?_)
        · refine z_iconstB F false dX11_isBetter_93 rfl ?_
          exact z_zret F E rfl (bI_nar _) dX11_isBetter_94 (by omega) (by omega) (⟨by rw [decide_eq_false (show ¬ kyN f s (nI j) < kyN f0 s0 (nI j0) by omega)], rfl⟩)
        · refine z_iconstB F true dX11_isBetter_89 rfl ?_
          refine z_goto F (tgt := 94) dX11_isBetter_90 (by decide) ?_
          exact z_zret F E rfl (bI_nar _) dX11_isBetter_94 (by omega) (by omega) (⟨by rw [decide_eq_true (show kyN f s (nI j) < kyN f0 s0 (nI j0) by omega)], rfl⟩)
      · refine z_iload F dX11_isBetter_66 rfl ?_
        refine z_iload F dX11_isBetter_68 rfl ?_
        refine z_icmp_geN F (by omega) (by omega) (tgt := 77) dX11_isBetter_70 (by decide) (fun c_70 => ?_) (fun c_70 => ?_)
        · refine z_iconstB F false dX11_isBetter_77 rfl ?_
          refine z_goto F (tgt := 94) dX11_isBetter_78 (by decide) ?_
          exact z_zret F E rfl (bI_nar _) dX11_isBetter_94 (by omega) (by omega) (⟨by rw [decide_eq_false (show ¬ kyN f s (nI j) < kyN f0 s0 (nI j0) by omega)], rfl⟩)
        · refine z_iconstB F true dX11_isBetter_73 rfl ?_
          refine z_goto F (tgt := 94) dX11_isBetter_74 (by decide) ?_
          exact z_zret F E rfl (bI_nar _) dX11_isBetter_94 (by omega) (by omega) (⟨by rw [decide_eq_true (show kyN f s (nI j) < kyN f0 s0 (nI j0) by omega)], rfl⟩)
    · refine z_iload_n F dX11_isBetter_30 rfl ?_
      refine z_aload_n F dX11_isBetter_31 rfl ?_
      refine z_get F zC11 (f := 10) rfl (Nat.le_of_ble_eq_true rfl) q974 rfl dX11_isBetter_32 ?_
      refine z_icmp_geN F (by omega) (by omega) (tgt := 42) dX11_isBetter_35 (by decide) (fun c_35 => ?_) (fun c_35 => ?_)
      · refine z_iconstB F false dX11_isBetter_42 rfl ?_
        exact z_zret F E rfl (bI_nar _) dX11_isBetter_43 (by omega) (by omega) (⟨by rw [decide_eq_false (show ¬ kyN f s (nI j) < kyN f0 s0 (nI j0) by omega)], rfl⟩)
      · refine z_iconstB F true dX11_isBetter_38 rfl ?_
        refine z_goto F (tgt := 43) dX11_isBetter_39 (by decide) ?_
        exact z_zret F E rfl (bI_nar _) dX11_isBetter_43 (by omega) (by omega) (⟨by rw [decide_eq_true (show kyN f s (nI j) < kyN f0 s0 (nI j0) by omega)], rfl⟩)
  · refine z_iload_n F dX11_isBetter_8 rfl ?_
    refine z_aload_n F dX11_isBetter_9 rfl ?_
    refine z_get F zC11 (f := 9) rfl (Nat.le_of_ble_eq_true rfl) q973 rfl dX11_isBetter_10 ?_
    refine z_icmp_geN F (by omega) (by omega) (tgt := 20) dX11_isBetter_13 (by decide) (fun c_13 => ?_) (fun c_13 => ?_)
    · refine z_iconstB F false dX11_isBetter_20 rfl ?_
      exact z_zret F E rfl (bI_nar _) dX11_isBetter_21 (by omega) (by omega) (⟨by rw [decide_eq_false (show ¬ kyN f s (nI j) < kyN f0 s0 (nI j0) by omega)], rfl⟩)
    · refine z_iconstB F true dX11_isBetter_16 rfl ?_
      refine z_goto F (tgt := 21) dX11_isBetter_17 (by decide) ?_
      exact z_zret F E rfl (bI_nar _) dX11_isBetter_21 (by omega) (by omega) (⟨by rw [decide_eq_true (show kyN f s (nI j) < kyN f0 s0 (nI j0) by omega)], rfl⟩)
def lkA (sz many : Nat) (D : Nat → Option Nat) (q : Nat → Nat) (sn : Int32) (La Fa : Nat → Int32) : Prop := (∀ t, t < 32 → bt sn t = (D t).isSome) ∧ (∀ t k, D t = some k → t < sz ∧ Fa t = nI k) ∧ ∀ x, x < many → q x < sz ∧ La x = nI (q x)
theorem lkA_put {sz many t v : Nat} {D : Nat → Option Nat} {q : Nat → Nat} {sn : Int32} {La Fa : Nat → Int32} (h : lkA sz many D q sn La Fa) (ht : t < sz) (hz : sz ≤ 24) : lkA sz (many + 1) (oput D t v) (fun x => if x = many then t else q x) (sn ||| b1 t) (upd La many (nI t)) (upd Fa t (nI v)) := by
  refine ⟨fun u hu => ?_, fun u k hu => ?_, fun x hx => ?_⟩
  · rw [bt_or1 _ (by omega), h.1 u hu]
    show _ = (if u = t then some v else D u).isSome
    by_cases e : u = t
    · rw [if_pos e, decide_eq_true e]; simp
    · rw [if_neg e, decide_eq_false e]; simp
  · replace hu : (if u = t then some v else D u) = some k := hu
    show u < sz ∧ (if u = t then _ else Fa u) = nI k
    by_cases e : u = t
    · rw [if_pos e] at hu ⊢; cases hu; exact ⟨by omega, rfl⟩
    · rw [if_neg e] at hu ⊢; exact h.2.1 u k hu
  · show (if x = many then t else q x) < sz ∧ (if x = many then _ else La x) = nI (if x = many then t else q x)
    by_cases e : x = many
    · rw [if_pos e, if_pos e]; exact ⟨ht, rfl⟩
    · rw [if_neg e, if_neg e]; exact h.2.2 x (by omega)
theorem smD_put {D : Nat → Option Nat} {t v n : Nat} (ht : t < n) (hD : D t = none) : smD (oput D t v) n = smD D n + v := by
  have e := fb_sm_upd (fun t => (D t).getD 0) v ht
  have e2 : smD (oput D t v) n = fb_sm (fun k => if k = t then v else (D k).getD 0) n := fb_sm_cong fun k _ => by
    show (if k = t then some v else D k).getD 0 = _
    split <;> rfl
  rw [hD] at e
  unfold smD at *
  rw [e2]
  simp only [Option.getD_none] at e
  omega
theorem smD_le {D : Nat → Option Nat} {n m : Nat} (h : ∀ t k, D t = some k → k ≤ m) : smD D n ≤ n * m := fb_sm_bound (fun t _ => by
  cases e : D t with
  | none => exact Nat.zero_le _
  | some k => exact h t k e)
theorem lkA_0 {sz : Nat} (h0 : 0 < sz) (La Fa : Nat → Int32) : lkA sz 1 (fun t => if t = 0 then some 0 else none) (fun _ => 0) (nI 1) (upd La 0 (nI 0)) (upd Fa 0 (nI 0)) := by
  refine ⟨fun t ht => ?_, fun t k ht => ?_, fun x hx => ⟨h0, ?_⟩⟩
  · show bt (nI 1) t = (if t = 0 then some 0 else none : Option Nat).isSome
    rw [show nI 1 = b1 0 from rfl, bt_b1 (by omega)]
    by_cases e : t = 0
    · rw [if_pos e, decide_eq_true e]; rfl
    · rw [if_neg e, decide_eq_false e]; rfl
  · replace ht : (if t = 0 then some 0 else none : Option Nat) = some k := ht
    by_cases e : t = 0
    · rw [if_pos e] at ht
      cases ht
      refine ⟨by omega, ?_⟩
      show (if t = 0 then _ else _) = _
      rw [if_pos e]
    · rw [if_neg e] at ht; cases ht
  · show (if x = 0 then _ else _) = _
    rw [if_pos (by omega)]
theorem smD_0 {n : Nat} : smD (fun t => if t = 0 then some 0 else none) n = 0 := by
  have := smD_le (D := fun t => if t = 0 then some 0 else none) (n := n) (m := 0) (fun t k hk => by
    replace hk : (if t = 0 then some 0 else none : Option Nat) = some k := hk
    by_cases e : t = 0
    · rw [if_pos e] at hk; cases hk; omega
    · rw [if_neg e] at hk; cases hk)
  omega
abbrev wSk (v1 v2 v3 : Int32) (bm bf bs : Int32) (Th : Nat → Nat → Int32) (La Fa : Nat → Int32) : List zE := [zH, zO 11 [zr 2 0, zi v1, zi v2, zr 3 0, zr 4 0, zr 5 0, zr 6 0, zi v3, zi bm, zi bf, zi bs], zH, zH, zMi 4 0 24 24 Th, zAi 0 24 La, zAi 0 24 Fa]
theorem nI_bits {c : Int32} {n : Nat} (hn : n ≤ 31) (h : ∀ i, bt c i = true → i < n) : ∃ j, j < 2 ^ 31 ∧ c = nI j := by
  have h0 : ¬ c < 0 := by
    intro z
    have h31 : bt c 31 = true := by
      unfold bt
      rw [Int32.lt_iff_toInt_lt] at z
      have z2 : c.toBitVec.toInt < 0 := z
      rw [BitVec.toInt_neg_iff] at z2
      rw [BitVec.getLsbD_eq_getElem (by omega)]
      rw [BitVec.getElem_eq_testBit_toNat]
      have z3 := c.toBitVec.isLt
      rw [Nat.testBit_eq_decide_div_mod_eq]
      simp only [decide_eq_true_eq]
      omega
    have := h 31 h31
    omega
  obtain ⟨j, hj, e⟩ := nI_of h0
  exact ⟨j, hj, e⟩
theorem c_skLook (kd a b : Nat) (c v1 v3 bm bf bs : Int32) (B : sBs) (Th : Nat → Nat → Int32) (La Fa : Nat → Int32) (h : grok kd a b) (hc : ∀ i, bt c i = true → i < a * b) (hT : ∀ x s, x < a * b → s < a * b → Th x s = nI (gth kd a b x s)) (hB : skB B bm bf bs) :
    zCtr yX11_look cX11_look 8 none 2 0 0 [zr 1 0, zi c] (wSk v1 (allB (a * b)) v3 bm bf bs Th La Fa) (fun r w => r = none ∧ ∃ bm' bf' bs' La' Fa', w = wSk v1 (allB (a * b)) v3 bm' bf' bs' Th La' Fa' ∧ skB (lkF (skV kd a b c) c B) bm' bf' bs') zNx := by
  refine z_start (by decide) [some (zr 1 0), some (zi c), none, none, none, none, none, none] rfl (fun _ => Nat.le_of_ble_eq_true rfl) (fun _ => rfl) (fun X F E hno hin => ?_)
  have h4 := h.2.2.2.1
  have h0 : 0 < a * b := Nat.mul_pos h.2.1 h.2.2.1
  obtain ⟨jc, hjc, ejc⟩ := nI_bits (by omega) hc
  -- what is done at the end
  have fin : ∀ (D : Nat → Option Nat) (l q : Nat → Nat) (cc i many : Nat) (sn : Int32) (La Fa : Nat → Int32), bQu (skE kd a b c) 0 cc D q l i many → ¬ i < many → 0 < many → lkA (a * b) many D q sn La Fa → Z X [some (zr 1 0), some (zi c), some (zi sn), some (zi (nI many)), some (zi (nI (smD D (a * b)))), some (zi (nI i)), none, none] [] (wSk v1 (allB (a * b)) v3 bm bf bs Th La Fa) 0 0 140 := by
    intro D l q cc i many sn La Fa hQ him hm0 hA
    have eD : D = skD kd a b c := funext fun t => hQ.fin him t
    have hmany := hQ.le (fun x hx => (hA.2.2 x hx).1)
    have eq1 : sn = allB (a * b) ↔ alD D (a * b) = true := by
      rw [alD_iff]
      constructor
      · intro e t ht
        rw [← hA.1 t (by omega), e]; exact al_t h4 ht
      · intro e
        refine b_ext fun t ht => ?_
        rw [hA.1 t ht, bt_allB h4]
        by_cases q : t < a * b
        · rw [e t q, decide_eq_true q]
        · rw [decide_eq_false q]
          cases e2 : D t with
          | none => rfl
          | some k => exact absurd (hA.2.1 t k e2).1 q
    have gl : La (many - 1) = nI (q (many - 1)) := (hA.2.2 _ (by omega)).2
    have gq := (hA.2.2 (many - 1) (by omega)).1
    have hlv := hQ.lv (many - 1) (by omega)
    have gf : Fa (q (many - 1)) = nI (l (many - 1)) := (hA.2.1 _ _ hlv).2
    have hlx := hQ.lx (many - 1) (by omega)
    have hmx : mxO D (a * b) = l (many - 1) := mxO_eq gq hlv (fun t k ht hk => by
      obtain ⟨x, hx, rfl⟩ := hQ.ex t k hk
      have h1 := hQ.lv x hx
      rw [hk] at h1; cases h1
      exact hQ.mo x (many - 1) (by omega) (by omega))
    have hsm : smD D (a * b) ≤ a * b * 24 := smD_le (fun t k hk => by have := hQ.bd hk; omega)
    have hv1 : alD D (a * b) = true → skV kd a b c = some (l (many - 1), smD D (a * b)) := fun z => by unfold skV; rw [← eD, if_pos z, hmx]
    have hv0 : ¬ alD D (a * b) = true → skV kd a b c = none := fun z => by unfold skV; rw [← eD, if_neg z]
    rcases B with _ | ⟨m, f0, s0⟩
    ·
      have hB0 : bm = -1 := hB
      subst hB0
      refine z_iload_n F dX11_look_140 rfl ?_
      refine z_aload_n F dX11_look_141 rfl ?_
      refine z_get F zC11 (f := 2) rfl (Nat.le_of_ble_eq_true rfl) q966 rfl dX11_look_142 ?_
      refine z_icmp_eq F (tgt := 149) dX11_look_145 (by decide) (fun c_145 => ?_) (fun c_145 => ?_)
      · refine z_aload_n F dX11_look_149 rfl ?_
        refine z_get F zC11 (f := 6) rfl (Nat.le_of_ble_eq_true rfl) q970 rfl dX11_look_150 ?_
        refine z_aload_n F dX11_look_153 rfl ?_
        refine z_get F zC11 (f := 5) rfl (Nat.le_of_ble_eq_true rfl) q969 rfl dX11_look_154 ?_
        refine z_iload_n F dX11_look_157 rfl ?_
        refine z_iconst F (nI 1) dX11_look_158 rfl ?_
        refine z_isubN F (by omega) dX11_look_159 ?_
        refine z_ialdN F rfl (Nat.le_of_ble_eq_true rfl) (by omega) rfl dX11_look_160 ?_
        refine z_ieq (gl) ?_
        refine z_ialdN F rfl (Nat.le_of_ble_eq_true rfl) (by omega) rfl dX11_look_161 ?_
        refine z_ieq (gf) ?_
        refine z_istore F dX11_look_162 (Nat.le_of_ble_eq_true rfl) ?_
        refine z_leq (L' := [_, _, _, _, _, _, _, _]) rfl ?_
        refine z_aload_n F dX11_look_164 rfl ?_
        refine z_get F zC11 (f := 8) rfl (Nat.le_of_ble_eq_true rfl) q972 rfl dX11_look_165 ?_
        refine z_iconst F (-1) dX11_look_168 rfl ?_
        refine z_icmp_eq F (tgt := 185) dX11_look_169 (by decide) (fun c_169 => ?_) (fun c_169 => ?_)
        · refine z_aload_n F dX11_look_185 rfl ?_
          refine z_iload_n F dX11_look_186 rfl ?_
          refine z_put F zC11 (f := 8) rfl (Nat.le_of_ble_eq_true rfl) q972 rfl (fun _ => rfl) (fun _ => rfl) (Nat.le_of_ble_eq_true rfl) dX11_look_187 ?_
          refine z_weq (w' := [_, zO _ [_, _, _, _, _, _, _, _, _, _, _], _, _, _, _, _]) rfl ?_
          refine z_aload_n F dX11_look_190 rfl ?_
          refine z_iload F dX11_look_191 rfl ?_
          refine z_put F zC11 (f := 9) rfl (Nat.le_of_ble_eq_true rfl) q973 rfl (fun _ => rfl) (fun _ => rfl) (Nat.le_of_ble_eq_true rfl) dX11_look_193 ?_
          refine z_weq (w' := [_, zO _ [_, _, _, _, _, _, _, _, _, _, _], _, _, _, _, _]) rfl ?_
          refine z_aload_n F dX11_look_196 rfl ?_
          refine z_iload F dX11_look_197 rfl ?_
          refine z_put F zC11 (f := 10) rfl (Nat.le_of_ble_eq_true rfl) q974 rfl (fun _ => rfl) (fun _ => rfl) (Nat.le_of_ble_eq_true rfl) dX11_look_199 ?_
          refine z_weq (w' := [_, zO _ [_, _, _, _, _, _, _, _, _, _, _], _, _, _, _, _]) rfl ?_
          exact z_vret F E rfl dX11_look_202 (by omega) (by omega) (⟨rfl, _, _, _, _, _, rfl, by rw [hv1 (eq1.mp c_145)]; exact ⟨rfl, rfl, rfl, by omega, by omega, jc, hjc, ejc⟩⟩)
        · exact absurd rfl c_169
      · exact z_vret F E rfl dX11_look_148 (by omega) (by omega) (⟨rfl, _, _, _, _, _, rfl, by rw [hv0 (fun z => c_145 (eq1.mpr z))]; exact rfl⟩)
    obtain ⟨rfl, rfl, rfl, q1, q2, j0, q3, rfl⟩ := hB
    refine z_iload_n F dX11_look_140 rfl ?_
    refine z_aload_n F dX11_look_141 rfl ?_
    refine z_get F zC11 (f := 2) rfl (Nat.le_of_ble_eq_true rfl) q966 rfl dX11_look_142 ?_
    refine z_icmp_eq F (tgt := 149) dX11_look_145 (by decide) (fun c_145 => ?_) (fun c_145 => ?_)
    · refine z_aload_n F dX11_look_149 rfl ?_
      refine z_get F zC11 (f := 6) rfl (Nat.le_of_ble_eq_true rfl) q970 rfl dX11_look_150 ?_
      refine z_aload_n F dX11_look_153 rfl ?_
      refine z_get F zC11 (f := 5) rfl (Nat.le_of_ble_eq_true rfl) q969 rfl dX11_look_154 ?_
      refine z_iload_n F dX11_look_157 rfl ?_
      refine z_iconst F (nI 1) dX11_look_158 rfl ?_
      refine z_isubN F (by omega) dX11_look_159 ?_
      refine z_ialdN F rfl (Nat.le_of_ble_eq_true rfl) (by omega) rfl dX11_look_160 ?_
      refine z_ieq (gl) ?_
      refine z_ialdN F rfl (Nat.le_of_ble_eq_true rfl) (by omega) rfl dX11_look_161 ?_
      refine z_ieq (gf) ?_
      refine z_istore F dX11_look_162 (Nat.le_of_ble_eq_true rfl) ?_
      refine z_leq (L' := [_, _, _, _, _, _, _, _]) rfl ?_
      refine z_aload_n F dX11_look_164 rfl ?_
      refine z_get F zC11 (f := 8) rfl (Nat.le_of_ble_eq_true rfl) q972 rfl dX11_look_165 ?_
      refine z_iconst F (-1) dX11_look_168 rfl ?_
      refine z_icmp_eq F (tgt := 185) dX11_look_169 (by decide) (fun c_169 => ?_) (fun c_169 => ?_)
      · exact absurd c_169 (nI_ne q3)
      · refine z_aload_n F dX11_look_172 rfl ?_
        refine z_iload F dX11_look_173 rfl ?_
        refine z_iload F dX11_look_175 rfl ?_
        refine z_iload_n F dX11_look_177 rfl ?_
        rw [ejc]
        refine z_callV F (c_skBet (l (many - 1)) (smD D (a * b)) jc f0 s0 j0 v1 _ v3 (by omega) (by omega) hjc q1 q2 q3) 3 rfl (lw_V q1011 q1013 qs19 q134 q1014) (by decide +kernel) ⟨Nat.le_of_ble_eq_true rfl, Nat.le_of_ble_eq_true rfl⟩ ⟨by omega, by omega⟩ [0, 1, 2, 3, 4, 5, 6] 7 ⟨rfl, rfl, rfl, ⟨Or.inl rfl, Or.inr rfl, Or.inl rfl, Or.inl rfl, Or.inl rfl, Or.inl rfl, Or.inl rfl, trivial⟩⟩ (fun h => nomatch h) (Nat.le_of_ble_eq_true rfl) ⟨⟨Or.inr trivial, Or.inl rfl, Or.inr trivial, Or.inr trivial, Or.inr trivial, Or.inr trivial, Or.inr trivial, trivial⟩, rfl, rfl, rfl, Nat.le_of_ble_eq_true rfl⟩ rfl zC11 rfl rfl dX11_look_178 (fun r_178 w_178 hp => ?_) (fun _ _ h => h.elim)
        obtain ⟨rfl, rfl⟩ := hp
        refine z_weq (w' := [zH, zO _ [zr _ _, zi _, zi _, zr _ _, zr _ _, zr _ _, zr _ _, zi _, zi _, zi _, zi _], zH, zH, zMi 4 0 24 24 _, zAi 0 24 _, zAi 0 24 _]) rfl ?_
        refine z_seq (S' := zi _ :: _) rfl ?_
        refine z_if_neB F (tgt := 185) dX11_look_181 (by decide) (fun c_181 => ?_) (fun c_181 => ?_)
        · refine z_aload_n F dX11_look_185 rfl ?_
          refine z_iload_n F dX11_look_186 rfl ?_
          refine z_put F zC11 (f := 8) rfl (Nat.le_of_ble_eq_true rfl) q972 rfl (fun _ => rfl) (fun _ => rfl) (Nat.le_of_ble_eq_true rfl) dX11_look_187 ?_
          refine z_weq (w' := [_, zO _ [_, _, _, _, _, _, _, _, _, _, _], _, _, _, _, _]) rfl ?_
          refine z_aload_n F dX11_look_190 rfl ?_
          refine z_iload F dX11_look_191 rfl ?_
          refine z_put F zC11 (f := 9) rfl (Nat.le_of_ble_eq_true rfl) q973 rfl (fun _ => rfl) (fun _ => rfl) (Nat.le_of_ble_eq_true rfl) dX11_look_193 ?_
          refine z_weq (w' := [_, zO _ [_, _, _, _, _, _, _, _, _, _, _], _, _, _, _, _]) rfl ?_
          refine z_aload_n F dX11_look_196 rfl ?_
          refine z_iload F dX11_look_197 rfl ?_
          refine z_put F zC11 (f := 10) rfl (Nat.le_of_ble_eq_true rfl) q974 rfl (fun _ => rfl) (fun _ => rfl) (Nat.le_of_ble_eq_true rfl) dX11_look_199 ?_
          refine z_weq (w' := [_, zO _ [_, _, _, _, _, _, _, _, _, _, _], _, _, _, _, _]) rfl ?_
          exact z_vret F E rfl dX11_look_202 (by omega) (by omega) (⟨rfl, _, _, _, _, _, rfl, by
  rw [hv1 (eq1.mp c_145)]
  show skB (if _ then _ else _) _ _ _
  rw [ejc, if_pos (of_decide_eq_true c_181)]
  exact ⟨rfl, rfl, rfl, by omega, by omega, jc, hjc, rfl⟩⟩)
        · exact z_vret F E rfl dX11_look_184 (by omega) (by omega) (⟨rfl, _, _, _, _, _, rfl, by
  rw [hv1 (eq1.mp c_145)]
  show skB (if _ then _ else _) _ _ _
  rw [ejc, if_neg (of_decide_eq_false c_181)]
  exact ⟨rfl, rfl, rfl, q1, q2, j0, q3, rfl⟩⟩)
    · exact z_vret F E rfl dX11_look_148 (by omega) (by omega) (⟨rfl, _, _, _, _, _, rfl, by rw [hv0 (fun z => c_145 (eq1.mpr z))]; exact ⟨rfl, rfl, rfl, q1, q2, j0, q3, rfl⟩⟩)
  have inner : ∀ (i p0 cc : Nat), p0 < a * b → (∀ (D : Nat → Option Nat) (q l : Nat → Nat) (many : Nat) (sn : Int32) (La Fa : Nat → Int32), bQu (skE kd a b c) 0 cc D q l i many → i < many → q i = p0 → lkA (a * b) many D q sn La Fa → (∀ t, skE kd a b c p0 t → ∃ j, D t = some j) → Z X [some (zr 1 0), some (zi c), some (zi sn), some (zi (nI many)), some (zi (nI (smD D (a * b)))), some (zi (nI i)), none, none] [] (wSk v1 (allB (a * b)) v3 bm bf bs Th La Fa) 0 0 134) →
      ∀ (m : Nat) (y : Int32) (x : Nat) (D : Nat → Option Nat) (q l : Nat → Nat) (many : Nat) (sn : Int32) (La Fa : Nat → Int32), pc32 y < m → x ≤ a * b → upto c x y → bQu (skE kd a b c) 0 cc D q l i many → i < many → q i = p0 → lkA (a * b) many D q sn La Fa → (∀ s, s < x → bt c s = true → ∃ j, D (gth kd a b p0 s) = some j) → Z X [some (zr 1 0), some (zi c), some (zi sn), some (zi (nI many)), some (zi (nI (smD D (a * b)))), some (zi (nI i)), some (zi y), none] [] (wSk v1 (allB (a * b)) v3 bm bf bs Th La Fa) 0 0 33 := by
    intro i p0 cc hp0 kk m
    induction m with
    | zero => intro y x D q l many sn La Fa hm; omega
    | succ m ih =>
      intro y x D q l many sn La Fa hm hx hu hQ him hqi hA hcov
      have hmany := hQ.le (fun x hx => (hA.2.2 x hx).1)
      have back : ∀ (s : Nat) (D : Nat → Option Nat) (q l : Nat → Nat) (many : Nat) (sn : Int32) (La Fa : Nat → Int32), s < a * b → upto c (s + 1) (y &&& (y - nI 1)) → pc32 (y &&& (y - nI 1)) < m → bQu (skE kd a b c) 0 cc D q l i many → i < many → q i = p0 → lkA (a * b) many D q sn La Fa → (∀ u, u < s + 1 → bt c u = true → ∃ j, D (gth kd a b p0 u) = some j) → Z X [some (zr 1 0), some (zi c), some (zi sn), some (zi (nI many)), some (zi (nI (smD D (a * b)))), some (zi (nI i)), some (zi y), none] [] (wSk v1 (allB (a * b)) v3 bm bf bs Th La Fa) 0 0 122 := by
        intro s D q l many sn La Fa hs hu2 hpc h1 h2 h3 h5 h6
        refine z_iload F dX11_look_122 rfl ?_
        refine z_iload F dX11_look_124 rfl ?_
        refine z_iconst F (nI 1) dX11_look_126 rfl ?_
        refine z_isub F dX11_look_127 ?_
        refine z_iand F dX11_look_128 ?_
        refine z_istore F dX11_look_129 (Nat.le_of_ble_eq_true rfl) ?_
        refine z_leq (L' := [_, _, _, _, _, _, _, _]) rfl ?_
        refine z_goto F (tgt := 33) dX11_look_131 (by decide) ?_
        exact ih _ (s + 1) D q l many sn La Fa hpc (by omega) hu2 h1 h2 h3 h5 h6
      have gl : La i = nI p0 := by rw [(hA.2.2 i him).2, hqi]
      have hDp : D p0 = some cc := by rw [← hqi, hQ.lv i him, hQ.hi him]
      have gf : Fa p0 = nI cc := (hA.2.1 _ _ hDp).2
      refine z_iload F dX11_look_33 rfl ?_
      refine z_if_eq F (tgt := 134) dX11_look_35 (by decide) (fun c_35 => ?_) (fun c_35 => ?_)
      · subst c_35
        refine z_loc _ ?_ (kk D q l many sn La Fa hQ him hqi hA (fun t ht => by
          obtain ⟨t1, s, s1, s2, rfl⟩ := ht
          refine hcov s (Nat.lt_of_not_le fun z => ?_) s2
          rw [upto_end hu s z (by omega)] at s2; cases s2))
        exact ⟨rfl, rfl, rfl, rfl, rfl, rfl, trivial⟩
      · obtain ⟨s, hs, hxs, hS, hSk, hy1, hy0, hu2, hpc⟩ := upto_low hu c_35
        have hsn := hc s hS
        have hgl := gth_lt (x := p0) (s := s) h
        have gM := hT p0 s hp0 hsn
        have gS := hA.1 (gth kd a b p0 s) (by omega)
        have hcov2 : ∀ u, u < s → bt c u = true → ∃ j, D (gth kd a b p0 u) = some j := fun u hu2 hb => by
          by_cases z : u < x
          · exact hcov u z hb
          · rw [hSk u (by omega) hu2] at hb; cases hb
        have hE : skE kd a b c p0 (gth kd a b p0 s) := ⟨hgl, s, hsn, hS, rfl⟩
        refine z_aload_n F dX11_look_38 rfl ?_
        refine z_get F zC11 (f := 4) rfl (Nat.le_of_ble_eq_true rfl) q968 rfl dX11_look_39 ?_
        refine z_aload_n F dX11_look_42 rfl ?_
        refine z_get F zC11 (f := 5) rfl (Nat.le_of_ble_eq_true rfl) q969 rfl dX11_look_43 ?_
        refine z_iload F dX11_look_46 rfl ?_
        refine z_ialdN F rfl (Nat.le_of_ble_eq_true rfl) (by omega) rfl dX11_look_48 ?_
        refine z_ieq (gl) ?_
        refine z_aaldMN F rfl (Or.inl rfl) (Nat.le_of_ble_eq_true rfl) (by omega) dX11_look_49 ?_
        refine z_iload F dX11_look_50 rfl ?_
        refine z_callS F (c_ntz y s (by omega) hy1 hy0) 1 rfl (lw_S q1010 q808 q123 q809) (by decide +kernel) ⟨Nat.le_of_ble_eq_true rfl, Nat.le_of_ble_eq_true rfl⟩ ⟨by omega, by omega⟩ [0] 7 ⟨rfl, rfl, rfl, ⟨Or.inl rfl, trivial⟩⟩ (fun h => nomatch h) (Nat.le_of_ble_eq_true rfl) ⟨⟨Or.inr trivial, Or.inr rfl, Or.inr trivial, Or.inr trivial, Or.inr trivial, Or.inr trivial, Or.inr trivial, trivial⟩, rfl, rfl, rfl, Nat.le_of_ble_eq_true rfl⟩ rfl rfl dX11_look_52 (fun r_52 w_52 hp => ?_) (fun _ _ h => h.elim)
        obtain ⟨rfl, rfl⟩ := hp
        refine z_weq (w' := [zH, zO _ [zr _ _, zi _, zi _, zr _ _, zr _ _, zr _ _, zr _ _, zi _, zi _, zi _, zi _], zH, zH, zMi 4 0 24 24 _, zAi 0 24 _, zAi 0 24 _]) rfl ?_
        refine z_seq (S' := zi _ :: _) rfl ?_
        refine z_ialdMN F rfl (by omega) (Nat.le_of_ble_eq_true rfl) (by omega) rfl dX11_look_55 ?_
        refine z_ieq (gM) ?_
        refine z_istore F dX11_look_56 (Nat.le_of_ble_eq_true rfl) ?_
        refine z_leq (L' := [_, _, _, _, _, _, _, _]) rfl ?_
        refine z_iload_n F dX11_look_58 rfl ?_
        refine z_iload F dX11_look_59 rfl ?_
        refine z_ishr F dX11_look_61 ?_
        refine z_iconst F (nI 1) dX11_look_62 rfl ?_
        refine z_iandB F (by omega) dX11_look_63 ?_
        refine z_iconst F (nI 1) dX11_look_64 rfl ?_
        refine z_icmp_neB F (tgt := 71) dX11_look_65 (by decide) (fun c_65 => ?_) (fun c_65 => ?_)
        · have no : D (gth kd a b p0 s) = none := by
            rw [gS] at c_65
            exact Option.isNone_iff_eq_none.mp (by rw [← Option.not_isSome, c_65]; rfl)
          have hml := hQ.lt (fun x hx => (hA.2.2 x hx).1) hgl no
          have hQ2 := hQ.put him (by rw [hqi]; exact hE) no
          refine z_iload_n F dX11_look_71 rfl ?_
          refine z_iconst F (nI 1) dX11_look_72 rfl ?_
          refine z_iload F dX11_look_73 rfl ?_
          refine z_ishlB F dX11_look_75 ?_
          refine z_ior F dX11_look_76 ?_
          refine z_istore_n F dX11_look_77 (Nat.le_of_ble_eq_true rfl) ?_
          refine z_leq (L' := [_, _, _, _, _, _, _, _]) rfl ?_
          refine z_aload_n F dX11_look_78 rfl ?_
          refine z_get F zC11 (f := 6) rfl (Nat.le_of_ble_eq_true rfl) q970 rfl dX11_look_79 ?_
          refine z_iload F dX11_look_82 rfl ?_
          refine z_aload_n F dX11_look_84 rfl ?_
          refine z_get F zC11 (f := 6) rfl (Nat.le_of_ble_eq_true rfl) q970 rfl dX11_look_85 ?_
          refine z_aload_n F dX11_look_88 rfl ?_
          refine z_get F zC11 (f := 5) rfl (Nat.le_of_ble_eq_true rfl) q969 rfl dX11_look_89 ?_
          refine z_iload F dX11_look_92 rfl ?_
          refine z_ialdN F rfl (Nat.le_of_ble_eq_true rfl) (by omega) rfl dX11_look_94 ?_
          refine z_ieq (gl) ?_
          refine z_ialdN F rfl (Nat.le_of_ble_eq_true rfl) (by omega) rfl dX11_look_95 ?_
          refine z_ieq (gf) ?_
          refine z_iconst F (nI 1) dX11_look_96 rfl ?_
          refine z_iaddN F dX11_look_97 ?_
          refine z_iastN F rfl (Nat.le_of_ble_eq_true rfl) (by omega) dX11_look_98 ?_
          refine z_weq (w' := [_, _, _, _, _, _, _]) rfl ?_
          refine z_iload F dX11_look_99 rfl ?_
          refine z_aload_n F dX11_look_101 rfl ?_
          refine z_get F zC11 (f := 6) rfl (Nat.le_of_ble_eq_true rfl) q970 rfl dX11_look_102 ?_
          refine z_iload F dX11_look_105 rfl ?_
          refine z_ialdN F rfl (Nat.le_of_ble_eq_true rfl) (by omega) rfl dX11_look_107 ?_
          refine z_ieq ((show (if gth kd a b p0 s = gth kd a b p0 s then _ else _) = _ from if_pos rfl)) ?_
          refine z_iaddN F dX11_look_108 ?_
          refine z_istore F dX11_look_109 (Nat.le_of_ble_eq_true rfl) ?_
          refine z_leq (L' := [_, _, _, _, _, _, _, _]) rfl ?_
          refine z_aload_n F dX11_look_111 rfl ?_
          refine z_get F zC11 (f := 5) rfl (Nat.le_of_ble_eq_true rfl) q969 rfl dX11_look_112 ?_
          refine z_iload_n F dX11_look_115 rfl ?_
          refine z_iload F dX11_look_116 rfl ?_
          refine z_iastN F rfl (Nat.le_of_ble_eq_true rfl) (by omega) dX11_look_118 ?_
          refine z_weq (w' := [_, _, _, _, _, _, _]) rfl ?_
          refine z_iincN F 1 dX11_look_119 rfl rfl ?_
          refine z_leq (L' := [_, _, _, _, _, _, _, _]) rfl ?_
          have bb := back s _ _ _ (many + 1) _ _ _ hsn hu2 (by omega) hQ2 (by omega) ((if_neg (by omega)).trans hqi) (lkA_put (v := cc + 1) hA hgl h4) (fun u hu3 hb => by
            by_cases z : gth kd a b p0 u = gth kd a b p0 s
            · exact ⟨cc + 1, if_pos z⟩
            · obtain ⟨j, hj⟩ := hcov2 u (Nat.lt_of_le_of_ne (by omega) (fun z2 => z (by rw [z2]))) hb
              exact ⟨j, (if_neg z).trans hj⟩)
          rw [smD_put hgl no] at bb
          refine z_loc _ ?_ bb
          exact ⟨rfl, rfl, rfl, rfl, rfl, rfl, rfl, trivial⟩
        · refine z_goto F (tgt := 122) dX11_look_68 (by decide) ?_
          have hd : ∃ j, D (gth kd a b p0 s) = some j := by
            rw [gS] at c_65
            exact Option.isSome_iff_exists.mp c_65
          refine z_loc _ ?_ (back s D q l many sn La Fa hsn hu2 (by omega) hQ him hqi hA (fun u hu3 hb => by
            by_cases z : u = s
            · rw [z]; exact hd
            · exact hcov2 u (by omega) hb))
          exact ⟨rfl, rfl, rfl, rfl, rfl, rfl, rfl, trivial⟩
  have outer : ∀ (m i cc : Nat) (D : Nat → Option Nat) (q l : Nat → Nat) (many : Nat) (sn : Int32) (La Fa : Nat → Int32), 25 - i < m → 0 < many → bQu (skE kd a b c) 0 cc D q l i many → lkA (a * b) many D q sn La Fa → Z X [some (zr 1 0), some (zi c), some (zi sn), some (zi (nI many)), some (zi (nI (smD D (a * b)))), some (zi (nI i)), none, none] [] (wSk v1 (allB (a * b)) v3 bm bf bs Th La Fa) 0 0 24 := by
    intro m
    induction m with
    | zero => intro i cc D q l many sn La Fa hm hm0 hQ hA; have := hQ.le (fun x hx => (hA.2.2 x hx).1); have := hQ.im; omega
    | succ m ih =>
      intro i cc D q l many sn La Fa hm hm0 hQ hA
      have hmany := hQ.le (fun x hx => (hA.2.2 x hx).1)
      have him := hQ.im
      have back : ∀ (D : Nat → Option Nat) (q l : Nat → Nat) (many : Nat) (sn : Int32) (La Fa : Nat → Int32), bQu (skE kd a b c) 0 cc D q l i many → i < many → lkA (a * b) many D q sn La Fa → (∀ t, skE kd a b c (q i) t → ∃ j, D t = some j) → Z X [some (zr 1 0), some (zi c), some (zi sn), some (zi (nI many)), some (zi (nI (smD D (a * b)))), some (zi (nI i)), none, none] [] (wSk v1 (allB (a * b)) v3 bm bf bs Th La Fa) 0 0 134 := by
        intro D q l many sn La Fa h1 h2 h3 h5
        have hmany := h1.le (fun x hx => (h3.2.2 x hx).1)
        obtain ⟨c', hQ2⟩ := h1.next h2 h5
        refine z_iincN F 1 dX11_look_134 rfl rfl ?_
        refine z_leq (L' := [_, _, _, _, _, _, _, _]) rfl ?_
        refine z_goto F (tgt := 24) dX11_look_137 (by decide) ?_
        exact ih (i + 1) c' D q l many sn La Fa (by omega) (by omega) hQ2 h3
      refine z_iload F dX11_look_24 rfl ?_
      refine z_iload_n F dX11_look_26 rfl ?_
      refine z_icmp_geN F (by omega) (by omega) (tgt := 140) dX11_look_27 (by decide) (fun c_27 => ?_) (fun c_27 => ?_)
      · exact fin D l q cc i many sn La Fa hQ (by omega) hm0 hA
      · refine z_iload_n F dX11_look_30 rfl ?_
        refine z_istore F dX11_look_31 (Nat.le_of_ble_eq_true rfl) ?_
        refine z_leq (L' := [_, _, _, _, _, _, _, _]) rfl ?_
        exact inner i (q i) cc (hA.2.2 i (by omega)).1 (fun D q2 l many sn La Fa h1 h2 h3 h5 h6 => back D q2 l many sn La Fa h1 h2 h5 (by rw [h3]; exact h6)) _ c 0 D q l many sn La Fa (Nat.lt_succ_self _) (by omega) (upto_0 _) hQ (by omega) rfl hA (fun s z => absurd z (by omega))
  refine z_iconst F (nI 1) dX11_look_0 rfl ?_
  refine z_istore_n F dX11_look_1 (Nat.le_of_ble_eq_true rfl) ?_
  refine z_leq (L' := [_, _, _, _, _, _, _, _]) rfl ?_
  refine z_iconst F (nI 1) dX11_look_2 rfl ?_
  refine z_istore_n F dX11_look_3 (Nat.le_of_ble_eq_true rfl) ?_
  refine z_leq (L' := [_, _, _, _, _, _, _, _]) rfl ?_
  refine z_aload_n F dX11_look_4 rfl ?_
  refine z_get F zC11 (f := 5) rfl (Nat.le_of_ble_eq_true rfl) q969 rfl dX11_look_5 ?_
  refine z_iconst F (nI 0) dX11_look_8 rfl ?_
  refine z_iconst F (nI 0) dX11_look_9 rfl ?_
  refine z_iastN F rfl (Nat.le_of_ble_eq_true rfl) (by omega) dX11_look_10 ?_
  refine z_weq (w' := [_, _, _, _, _, _, _]) rfl ?_
  refine z_aload_n F dX11_look_11 rfl ?_
  refine z_get F zC11 (f := 6) rfl (Nat.le_of_ble_eq_true rfl) q970 rfl dX11_look_12 ?_
  refine z_iconst F (nI 0) dX11_look_15 rfl ?_
  refine z_iconst F (nI 0) dX11_look_16 rfl ?_
  refine z_iastN F rfl (Nat.le_of_ble_eq_true rfl) (by omega) dX11_look_17 ?_
  refine z_weq (w' := [_, _, _, _, _, _, _]) rfl ?_
  refine z_iconst F (nI 0) dX11_look_18 rfl ?_
  refine z_istore F dX11_look_19 (Nat.le_of_ble_eq_true rfl) ?_
  refine z_leq (L' := [_, _, _, _, _, _, _, _]) rfl ?_
  refine z_iconst F (nI 0) dX11_look_21 rfl ?_
  refine z_istore F dX11_look_22 (Nat.le_of_ble_eq_true rfl) ?_
  refine z_leq (L' := [_, _, _, _, _, _, _, _]) rfl ?_
  have o1 := outer 26 0 0 _ (fun _ => 0) _ 1 (nI 1) (upd La 0 (nI 0)) (upd Fa 0 (nI 0)) (by omega) (by omega) (bQu_0 (skE kd a b c) 0 (fun _ => 0) rfl) (lkA_0 h0 La Fa)
  rw [smD_0] at o1
  exact o1
end C9b
