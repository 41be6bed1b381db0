/-! Flow -/
section C48
abbrev wFw (n d : Int32) (f : Nat → Int32) (pl : Int32) (M : Nat → Nat → Int32) (fr ln : Nat → Int32) : List zE := [zH, zO 3 [zr 2 0, zr 3 0, zr 4 0, zi pl], zMi 4 0 48 48 M, zAi 0 48 fr, zAi 0 48 ln, eNet 6 n d, zAi 0 24 f]
def ly1 (n : Nat) (f : Nat → Int32) (cp a : Nat) (M : Nat → Nat → Int32) : Prop := ∀ p q, p < 2 * n → q < 2 * n → M p q = nI (if p < 2 * a then R0c n f cp p q else 0)
def ly2 (n : Nat) (f : Nat → Int32) (cp a b : Nat) (M : Nat → Nat → Int32) : Prop := ∀ p q, p < 2 * n → q < 2 * n → M p q = nI (if p < 2 * a + 1 then R0c n f cp p q else if p = 2 * a + 1 ∧ q < 2 * b then R0c n f cp p q else 0)
theorem lyA {n : Nat} {f : Nat → Int32} {cp a : Nat} {M : Nat → Nat → Int32} (h : ly1 n f cp a M) (ha : a < n) : ly2 n f cp a 0 (zup2 M (2 * a) (2 * a + 1) (nI cp)) := by
  intro p q hp hq
  have := h p q hp hq
  rw [zup2_pq]
  have e1 : 2 * a % 2 = 0 := by omega
  by_cases h1 : p = 2 * a
  · subst h1
    by_cases h2 : q = 2 * a + 1
    · rw [if_pos ⟨rfl, h2⟩, if_pos (by omega), R0c, if_pos e1, if_pos h2]
    · rw [if_neg (fun z => h2 z.2), this, if_neg (by omega), if_pos (by omega), R0c, if_pos e1, if_neg h2]
  · rw [if_neg (fun z => h1 z.1), this]
    by_cases h3 : p < 2 * a
    · rw [if_pos h3, if_pos (by omega)]
    · rw [if_neg h3, if_neg (by omega), if_neg (by omega)]
theorem lyBC {n : Nat} {f : Nat → Int32} {cp a b : Nat} {M : Nat → Nat → Int32} (h : ly2 n f cp a b M) : (bt (f a) b = true → ly2 n f cp a (b + 1) (zup2 M (2 * a + 1) (2 * b) (nI 1))) ∧ (bt (f a) b = false → ly2 n f cp a (b + 1) M) := by
  have e1 : (2 * a + 1) % 2 = 1 := by omega
  have e2 : (2 * a + 1) / 2 = a := by omega
  have e3 : 2 * b % 2 = 0 := by omega
  have e4 : 2 * b / 2 = b := by omega
  have key : ∀ p q, p < 2 * n → q < 2 * n → ¬ (p = 2 * a + 1 ∧ q = 2 * b) → M p q = nI (if p < 2 * a + 1 then R0c n f cp p q else if p = 2 * a + 1 ∧ q < 2 * (b + 1) then R0c n f cp p q else 0) := by
    intro p q hp hq hne
    rw [h p q hp hq]
    by_cases h1 : p < 2 * a + 1
    · rw [if_pos h1, if_pos h1]
    · rw [if_neg h1, if_neg h1]
      by_cases h2 : p = 2 * a + 1
      · subst h2
        by_cases h3 : q < 2 * b
        · rw [if_pos ⟨rfl, h3⟩, if_pos ⟨rfl, by omega⟩]
        · rw [if_neg (by omega)]
          by_cases h4 : q = 2 * b + 1
          · subst h4
            rw [if_pos ⟨rfl, by omega⟩, R0c, if_neg (by omega), if_neg (by omega)]
          · rw [if_neg (by omega)]
      · rw [if_neg (by omega), if_neg (by omega)]
  constructor
  · intro hb p q hp hq
    rw [zup2_pq]
    by_cases h1 : p = 2 * a + 1 ∧ q = 2 * b
    · obtain ⟨rfl, rfl⟩ := h1
      rw [if_pos ⟨rfl, rfl⟩, if_neg (by omega), if_pos ⟨rfl, by omega⟩, R0c, if_neg (by omega), e2, e4, if_pos ⟨e3, hb⟩]
    · rw [if_neg h1]; exact key p q hp hq h1
  · intro hb p q hp hq
    by_cases h1 : p = 2 * a + 1 ∧ q = 2 * b
    · obtain ⟨rfl, rfl⟩ := h1
      rw [h _ _ hp hq, if_neg (by omega), if_neg (by omega), if_neg (by omega), if_pos ⟨rfl, by omega⟩, R0c, if_neg (by omega), e2, e4, if_neg (by rw [hb]; simp)]
    · exact key p q hp hq h1
theorem lyD {n : Nat} {f : Nat → Int32} {cp a : Nat} {M : Nat → Nat → Int32} (h : ly2 n f cp a n M) : ly1 n f cp (a + 1) M := by
  intro p q hp hq
  rw [h p q hp hq]
  by_cases h1 : p < 2 * a + 1
  · rw [if_pos h1, if_pos (by omega)]
  · rw [if_neg h1]
    by_cases h2 : p = 2 * a + 1
    · rw [if_pos ⟨h2, hq⟩, if_pos (by omega)]
    · rw [if_neg (by omega), if_neg (by omega)]
theorem c_fwLay (n : Nat) (d : Int32) (f : Nat → Int32) (kb : Bool) (pl : Int32) (M : Nat → Nat → Int32) (fr ln : Nat → Int32) (hn : n ≤ 24) : zCtr yX3_lay cX3_lay 5 none 1 0 0 [zr 1 0, zr 5 0, zi (bI kb)] (wFw (nI n) d f pl M fr ln) (fun r w => r = none ∧ ∃ M', w = wFw (nI n) d f (nI (2 * n)) M' fr ln ∧ ∀ p q, p < 2 * n → q < 2 * n → M' p q = nI (R0c n f (if kb then 1 else 24) p q)) zNx := by
  refine z_start (by decide) [some (zr 1 0), some (zr 5 0), some (zi (bI kb)), none, none] rfl (fun _ => Nat.le_of_ble_eq_true rfl) (fun _ => rfl) (fun X F E hno hin => ?_)
  have l4 : ∀ (a : Nat), a < n → ∀ (m b : Nat) (M1 : Nat → Nat → Int32), n - b < m → b ≤ n → ly2 n f (if kb then 1 else 24) a b M1 →
      (∀ M2, ly1 n f (if kb then 1 else 24) (a + 1) M2 → Z X [some (zr 1 0), some (zr 5 0), some (zi (bI kb)), some (zi (nI (a + 1))), none] [] (wFw (nI n) d f (nI (2 * n)) M2 fr ln) 0 0 56) → Z X [some (zr 1 0), some (zr 5 0), some (zi (bI kb)), some (zi (nI a)), some (zi (nI b))] [] (wFw (nI n) d f (nI (2 * n)) M1 fr ln) 0 0 91 := by
    intro a ha m
    induction m with
    | zero => intro b M1 hm; omega
    | succ m ih =>
      intro b M1 hm hb hM kk
      refine z_iload F dX3_lay_91 rfl ?_
      refine z_aload_n F dX3_lay_93 rfl ?_
      refine z_getN F zC5 (f := 0) rfl (Nat.le_of_ble_eq_true rfl) q241 rfl dX3_lay_94 ?_
      refine z_icmp_geN F (by omega) (by omega) (tgt := 132) dX3_lay_97 (by decide) (fun c_97 => ?_) (fun c_97 => ?_)
      · have eb : b = n := by omega
        subst eb
        refine z_iincN F 1 dX3_lay_132 rfl rfl ?_
        refine z_leq (L' := [_, _, _, _, _]) rfl ?_
        refine z_goto F (tgt := 56) dX3_lay_135 (by decide) ?_
        refine z_loc _ ?_ (kk M1 (lyD hM))
        exact ⟨rfl, rfl, rfl, rfl, trivial⟩
      · refine z_aload_n F dX3_lay_100 rfl ?_
        refine z_iload_n F dX3_lay_101 rfl ?_
        refine z_iload F dX3_lay_102 rfl ?_
        refine z_callV F (c_has (nI n) d f a b (by omega) (by omega)) 2 rfl (lw_V q852 q508 q509 q116 q510) (by decide +kernel) ⟨Nat.le_of_ble_eq_true rfl, Nat.le_of_ble_eq_true rfl⟩ ⟨by omega, by omega⟩ [0, 5, 6] 7 ⟨rfl, rfl, rfl, ⟨Or.inl rfl, Or.inr rfl, Or.inr rfl, trivial⟩⟩ (fun h => nomatch h) (Nat.le_of_ble_eq_true rfl) ⟨⟨Or.inr trivial, Or.inr rfl, Or.inr trivial, Or.inr trivial, Or.inr trivial, Or.inl rfl, Or.inl rfl, trivial⟩, rfl, rfl, rfl, Nat.le_of_ble_eq_true rfl⟩ rfl zC5 rfl rfl dX3_lay_104 (fun r_104 w_104 hp => ?_) (fun _ _ h => h.elim)
        obtain ⟨rfl, rfl⟩ := hp
        refine z_weq (w' := [zH, zO _ [zr _ _, zr _ _, zr _ _, zi _], zMi 4 0 48 48 _, zAi 0 48 _, zAi 0 48 _, zO _ [zi _, zi _, zr _ _], zAi 0 24 _]) rfl ?_
        refine z_seq (S' := zi _ :: _) rfl ?_
        refine z_if_eqB F (tgt := 126) dX3_lay_107 (by decide) (fun c_107 => ?_) (fun c_107 => ?_)
        · refine z_iincN F 1 dX3_lay_126 rfl rfl ?_
          refine z_leq (L' := [_, _, _, _, _]) rfl ?_
          refine z_goto F (tgt := 91) dX3_lay_129 (by decide) ?_
          exact ih (b + 1) _ (by omega) (by omega) ((lyBC hM).2 c_107) kk
        · refine z_aload_n F dX3_lay_110 rfl ?_
          refine z_get F zC3 (f := 0) rfl (Nat.le_of_ble_eq_true rfl) q183 rfl dX3_lay_111 ?_
          refine z_iconst F (nI 2) dX3_lay_114 rfl ?_
          refine z_iload_n F dX3_lay_115 rfl ?_
          refine z_imulN F dX3_lay_116 ?_
          refine z_iconst F (nI 1) dX3_lay_117 rfl ?_
          refine z_iaddN F dX3_lay_118 ?_
          refine z_aaldMN F rfl (Or.inl rfl) (Nat.le_of_ble_eq_true rfl) (by omega) dX3_lay_119 ?_
          refine z_iconst F (nI 2) dX3_lay_120 rfl ?_
          refine z_iload F dX3_lay_121 rfl ?_
          refine z_imulN F dX3_lay_123 ?_
          refine z_iconst F (nI 1) dX3_lay_124 rfl ?_
          refine z_iastMN F rfl (by omega) (Nat.le_of_ble_eq_true rfl) (by omega) dX3_lay_125 ?_
          refine z_weq (w' := [_, _, _, _, _, _, _]) rfl ?_
          refine z_iincN F 1 dX3_lay_126 rfl rfl ?_
          refine z_leq (L' := [_, _, _, _, _]) rfl ?_
          refine z_goto F (tgt := 91) dX3_lay_129 (by decide) ?_
          exact ih (b + 1) _ (by omega) (by omega) ((lyBC hM).1 c_107) kk
  have l3 : ∀ (m a : Nat) (M1 : Nat → Nat → Int32), n - a < m → a ≤ n → ly1 n f (if kb then 1 else 24) a M1 → Z X [some (zr 1 0), some (zr 5 0), some (zi (bI kb)), some (zi (nI a)), none] [] (wFw (nI n) d f (nI (2 * n)) M1 fr ln) 0 0 56 := by
    intro m
    induction m with
    | zero => intro a M1 hm; omega
    | succ m ih =>
      intro a M1 hm ha hM
      refine z_iload_n F dX3_lay_56 rfl ?_
      refine z_aload_n F dX3_lay_57 rfl ?_
      refine z_getN F zC5 (f := 0) rfl (Nat.le_of_ble_eq_true rfl) q241 rfl dX3_lay_58 ?_
      refine z_icmp_geN F (by omega) (by omega) (tgt := 138) dX3_lay_61 (by decide) (fun c_61 => ?_) (fun c_61 => ?_)
      · have ea : a = n := by omega
        subst ea
        exact z_vret F E rfl dX3_lay_138 (by omega) (by omega) (⟨rfl, M1, rfl, fun p q hp hq => (hM p q hp hq).trans (by rw [if_pos hp])⟩)
      · refine z_aload_n F dX3_lay_64 rfl ?_
        refine z_get F zC3 (f := 0) rfl (Nat.le_of_ble_eq_true rfl) q183 rfl dX3_lay_65 ?_
        refine z_iconst F (nI 2) dX3_lay_68 rfl ?_
        refine z_iload_n F dX3_lay_69 rfl ?_
        refine z_imulN F dX3_lay_70 ?_
        refine z_aaldMN F rfl (Or.inl rfl) (Nat.le_of_ble_eq_true rfl) (by omega) dX3_lay_71 ?_
        refine z_iconst F (nI 2) dX3_lay_72 rfl ?_
        refine z_iload_n F dX3_lay_73 rfl ?_
        refine z_imulN F dX3_lay_74 ?_
        refine z_iconst F (nI 1) dX3_lay_75 rfl ?_
        refine z_iaddN F dX3_lay_76 ?_
        refine z_iload_n F dX3_lay_77 rfl ?_
        refine z_if_eqB F (tgt := 85) dX3_lay_78 (by decide) (fun c_78 => ?_) (fun c_78 => ?_)
        · refine z_bipush F (nI 24) dX3_lay_85 rfl ?_
          refine z_iastMN F rfl (by omega) (Nat.le_of_ble_eq_true rfl) (by omega) dX3_lay_87 ?_
          refine z_weq (w' := [_, _, _, _, _, _, _]) rfl ?_
          refine z_iconst F (nI 0) dX3_lay_88 rfl ?_
          refine z_istore F dX3_lay_89 (Nat.le_of_ble_eq_true rfl) ?_
          refine z_leq (L' := [_, _, _, _, _]) rfl ?_
          refine l4 a (by omega) _ 0 _ (Nat.lt_succ_self _) (by omega) ?_ (fun M2 h2 => ih (a + 1) M2 (by omega) (by omega) h2)
          have h0 := lyA hM (by omega)
          rw [c_78] at h0 ⊢
          exact h0
        · refine z_iconst F (nI 1) dX3_lay_81 rfl ?_
          refine z_goto F (tgt := 87) dX3_lay_82 (by decide) ?_
          refine z_iastMN F rfl (by omega) (Nat.le_of_ble_eq_true rfl) (by omega) dX3_lay_87 ?_
          refine z_weq (w' := [_, _, _, _, _, _, _]) rfl ?_
          refine z_iconst F (nI 0) dX3_lay_88 rfl ?_
          refine z_istore F dX3_lay_89 (Nat.le_of_ble_eq_true rfl) ?_
          refine z_leq (L' := [_, _, _, _, _]) rfl ?_
          refine l4 a (by omega) _ 0 _ (Nat.lt_succ_self _) (by omega) ?_ (fun M2 h2 => ih (a + 1) M2 (by omega) (by omega) h2)
          have h0 := lyA hM (by omega)
          rw [c_78] at h0 ⊢
          exact h0
  have l2 : ∀ (p : Nat), p < 2 * n → ∀ (m q : Nat) (M1 : Nat → Nat → Int32), 2 * n - q < m → q ≤ 2 * n → (∀ p' q', q' < 2 * n → (p' < p ∨ p' = p ∧ q' < q) → M1 p' q' = nI 0) →
      (∀ M2, (∀ p' q', q' < 2 * n → p' < p + 1 → M2 p' q' = nI 0) → Z X [some (zr 1 0), some (zr 5 0), some (zi (bI kb)), some (zi (nI (p + 1))), none] [] (wFw (nI n) d f (nI (2 * n)) M2 fr ln) 0 0 12) → Z X [some (zr 1 0), some (zr 5 0), some (zi (bI kb)), some (zi (nI p)), some (zi (nI q))] [] (wFw (nI n) d f (nI (2 * n)) M1 fr ln) 0 0 23 := by
    intro p hp m
    induction m with
    | zero => intro q M1 hm; omega
    | succ m ih =>
      intro q M1 hm hq hM kk
      refine z_iload F dX3_lay_23 rfl ?_
      refine z_aload_n F dX3_lay_25 rfl ?_
      refine z_get F zC3 (f := 3) rfl (Nat.le_of_ble_eq_true rfl) q186 rfl dX3_lay_26 ?_
      refine z_icmp_geN F (by omega) (by omega) (tgt := 48) dX3_lay_29 (by decide) (fun c_29 => ?_) (fun c_29 => ?_)
      · have eq0 : q = 2 * n := by omega
        refine z_iincN F 1 dX3_lay_48 rfl rfl ?_
        refine z_leq (L' := [_, _, _, _, _]) rfl ?_
        refine z_goto F (tgt := 12) dX3_lay_51 (by decide) ?_
        refine z_loc _ ?_ (kk M1 (fun p' q' hq' hh => hM p' q' hq' (by omega)))
        exact ⟨rfl, rfl, rfl, rfl, trivial⟩
      · refine z_aload_n F dX3_lay_32 rfl ?_
        refine z_get F zC3 (f := 0) rfl (Nat.le_of_ble_eq_true rfl) q183 rfl dX3_lay_33 ?_
        refine z_iload_n F dX3_lay_36 rfl ?_
        refine z_aaldMN F rfl (Or.inl rfl) (Nat.le_of_ble_eq_true rfl) (by omega) dX3_lay_37 ?_
        refine z_iload F dX3_lay_38 rfl ?_
        refine z_iconst F (nI 0) dX3_lay_40 rfl ?_
        refine z_iastMN F rfl (by omega) (Nat.le_of_ble_eq_true rfl) (by omega) dX3_lay_41 ?_
        refine z_weq (w' := [_, _, _, _, _, _, _]) rfl ?_
        refine z_iincN F 1 dX3_lay_42 rfl rfl ?_
        refine z_leq (L' := [_, _, _, _, _]) rfl ?_
        refine z_goto F (tgt := 23) dX3_lay_45 (by decide) ?_
        refine ih (q + 1) _ (by omega) (by omega) (fun p' q' hq' hh => ?_) kk
        rw [zup2_pq]
        by_cases e : p' = p ∧ q' = q
        · rw [if_pos e]
        · rw [if_neg e]; exact hM p' q' hq' (by omega)
  have l1 : ∀ (m p : Nat) (M1 : Nat → Nat → Int32), 2 * n - p < m → p ≤ 2 * n → (∀ p' q', q' < 2 * n → p' < p → M1 p' q' = nI 0) → Z X [some (zr 1 0), some (zr 5 0), some (zi (bI kb)), some (zi (nI p)), none] [] (wFw (nI n) d f (nI (2 * n)) M1 fr ln) 0 0 12 := by
    intro m
    induction m with
    | zero => intro p M1 hm; omega
    | succ m ih =>
      intro p M1 hm hp hM
      refine z_iload_n F dX3_lay_12 rfl ?_
      refine z_aload_n F dX3_lay_13 rfl ?_
      refine z_get F zC3 (f := 3) rfl (Nat.le_of_ble_eq_true rfl) q186 rfl dX3_lay_14 ?_
      refine z_icmp_geN F (by omega) (by omega) (tgt := 54) dX3_lay_17 (by decide) (fun c_17 => ?_) (fun c_17 => ?_)
      · have ep : p = 2 * n := by omega
        refine z_iconst F (nI 0) dX3_lay_54 rfl ?_
        refine z_istore_n F dX3_lay_55 (Nat.le_of_ble_eq_true rfl) ?_
        refine z_leq (L' := [_, _, _, _, _]) rfl ?_
        exact l3 _ 0 M1 (Nat.lt_succ_self _) (by omega) (fun p' q' hp' hq' => by rw [if_neg (by omega)]; exact hM p' q' hq' (by omega))
      · refine z_iconst F (nI 0) dX3_lay_20 rfl ?_
        refine z_istore F dX3_lay_21 (Nat.le_of_ble_eq_true rfl) ?_
        refine z_leq (L' := [_, _, _, _, _]) rfl ?_
        exact l2 p (by omega) _ 0 M1 (Nat.lt_succ_self _) (by omega) (fun p' q' hq' hh => hM p' q' hq' (by omega)) (fun M2 h2 => ih (p + 1) M2 (by omega) (by omega) h2)
  refine z_aload_n F dX3_lay_0 rfl ?_
  refine z_iconst F (nI 2) dX3_lay_1 rfl ?_
  refine z_aload_n F dX3_lay_2 rfl ?_
  refine z_getN F zC5 (f := 0) rfl (Nat.le_of_ble_eq_true rfl) q241 rfl dX3_lay_3 ?_
  refine z_imulN F dX3_lay_6 ?_
  refine z_put F zC3 (f := 3) rfl (Nat.le_of_ble_eq_true rfl) q186 rfl (fun _ => rfl) (fun _ => rfl) (Nat.le_of_ble_eq_true rfl) dX3_lay_7 ?_
  refine z_weq (w' := [_, zO _ [_, _, _, _], _, _, _, _, _]) rfl ?_
  refine z_iconst F (nI 0) dX3_lay_10 rfl ?_
  refine z_istore_n F dX3_lay_11 (Nat.le_of_ble_eq_true rfl) ?_
  refine z_leq (L' := [_, _, _, _, _]) rfl ?_
  exact l1 _ 0 M (Nat.lt_succ_self _) (by omega) (fun p' q' _ hh => by omega)
theorem c_fwFinds (V a b : Nat) (M : Nat → Nat → Int32) (R : Nat → Nat → Nat) (fr0 ln0 : Nat → Int32) (hV : V ≤ 48) (ha : a < V) (hb : b < V) (hM : ∀ p q, p < V → q < V → M p q = nI (R p q)) (hR : ∀ p q, R p q + R q p ≤ 60) : zCtr yX3_finds cX3_finds 7 (some .boolean) 0 0 0 [zr 1 0, zi (nI a), zi (nI b)] [zH, zO 3 [zr 2 0, zr 3 0, zr 4 0, zi (nI V)], zMi 4 0 48 48 M, zAi 0 48 fr0, zAi 0 48 ln0]
    (fun r w => ∃ res : Bool, r = some (zi (bI res)) ∧ ∃ fr ln, w = [zH, zO 3 [zr 2 0, zr 3 0, zr 4 0, zi (nI V)], zMi 4 0 48 48 M, zAi 0 48 fr, zAi 0 48 ln] ∧ (res = true → ∃ many c j, fnv R V a many fr ln c ∧ j < many ∧ c j = b) ∧ (res = false → ∃ S : Nat → Bool, S a = true ∧ S b = false ∧ cutr R V S = 0)) zNx := by
  refine z_start (by decide) [some (zr 1 0), some (zi (nI a)), some (zi (nI b)), none, none, none, none] rfl (fun _ => Nat.le_of_ble_eq_true rfl) (fun _ => rfl) (fun X F E hno hin => ?_)
  have J : ∀ (many : Nat) (fr ln : Nat → Int32) (c : Nat → Nat), fnv R V a many fr ln c → (fr b = -1 → fdn R V many c many) → Z X [some (zr 1 0), some (zi (nI a)), some (zi (nI b)), none, none, none, none] [] [zH, zO 3 [zr 2 0, zr 3 0, zr 4 0, zi (nI V)], zMi 4 0 48 48 M, zAi 0 48 fr, zAi 0 48 ln] 0 0 138 := by
    intro many fr ln c hf hd
    refine z_aload_n F dX3_finds_138 rfl ?_
    refine z_get F zC3 (f := 1) rfl (Nat.le_of_ble_eq_true rfl) q184 rfl dX3_finds_139 ?_
    refine z_iload_n F dX3_finds_142 rfl ?_
    refine z_ialdN F rfl (Nat.le_of_ble_eq_true rfl) (by omega) rfl dX3_finds_143 ?_
    refine z_iconst F (-1) dX3_finds_144 rfl ?_
    refine z_icmp_eq F (tgt := 152) dX3_finds_145 (by decide) (fun c_145 => ?_) (fun c_145 => ?_)
    · refine z_iconstB F false dX3_finds_152 rfl ?_
      exact z_zret F E rfl rfl dX3_finds_153 (by omega) (by omega) (⟨false, rfl, fr, ln, rfl, (fun q => nomatch q), fun _ => hf.dead hV (hd c_145) hb c_145⟩)
    · refine z_iconstB F true dX3_finds_148 rfl ?_
      refine z_goto F (tgt := 153) dX3_finds_149 (by decide) ?_
      exact z_zret F E rfl rfl dX3_finds_153 (by omega) (by omega) (⟨true, rfl, fr, ln, rfl, fun _ => by obtain ⟨j, h1, h2⟩ := (hf.vis hV hb).mp c_145; exact ⟨many, c, j, hf, h1, h2⟩, (fun q => nomatch q)⟩)
  have inner : ∀ (i : Nat), ∀ (m q many : Nat) (fr ln : Nat → Int32) (c : Nat → Nat), V - q < m → q ≤ V → i < many → fnv R V a many fr ln c → fdn R V many c i → (∀ q', q' < q → R (c i) q' ≠ 0 → ∃ j, j < many ∧ c j = q') →
      (∀ many fr ln c, fnv R V a many fr ln c → i < many → fdn R V many c (i + 1) → Z X [some (zr 1 0), some (zi (nI a)), some (zi (nI b)), some (zi (nI many)), some (zi (nI (i + 1))), none, none] [] [zH, zO 3 [zr 2 0, zr 3 0, zr 4 0, zi (nI V)], zMi 4 0 48 48 M, zAi 0 48 fr, zAi 0 48 ln] 0 0 42) →
      Z X [some (zr 1 0), some (zi (nI a)), some (zi (nI b)), some (zi (nI many)), some (zi (nI i)), some (zi (nI (c i))), some (zi (nI q))] [] [zH, zO 3 [zr 2 0, zr 3 0, zr 4 0, zi (nI V)], zMi 4 0 48 48 M, zAi 0 48 fr, zAi 0 48 ln] 0 0 70 := by
    intro i m
    induction m with
    | zero => intro q many fr ln c hm; omega
    | succ m ih =>
      intro q many fr ln c hm hq hi hf hd hh kk
      have hmV := hf.le
      have hci := (hf.1 i hi).2
      have hRb := hR (c i) q
      refine z_iload F dX3_finds_70 rfl ?_
      refine z_aload_n F dX3_finds_72 rfl ?_
      refine z_get F zC3 (f := 3) rfl (Nat.le_of_ble_eq_true rfl) q186 rfl dX3_finds_73 ?_
      refine z_icmp_geN F (by omega) (by omega) (tgt := 132) dX3_finds_76 (by decide) (fun c_76 => ?_) (fun c_76 => ?_)
      · have eq0 : q = V := by omega
        subst eq0
        refine z_iincN F 1 dX3_finds_132 rfl rfl ?_
        refine z_leq (L' := [_, _, _, _, _, _, _]) rfl ?_
        refine z_goto F (tgt := 42) dX3_finds_135 (by decide) ?_
        refine z_loc _ ?_ (kk many fr ln c hf hi (fun k hk q' hq' h2 => by
          by_cases e : k = i
          · subst e; exact hh q' hq' h2
          · exact hd k (by omega) q' hq' h2))
        exact ⟨rfl, rfl, rfl, rfl, rfl, trivial⟩
      · refine z_aload_n F dX3_finds_79 rfl ?_
        refine z_get F zC3 (f := 0) rfl (Nat.le_of_ble_eq_true rfl) q183 rfl dX3_finds_80 ?_
        refine z_iload F dX3_finds_83 rfl ?_
        refine z_aaldMN F rfl (Or.inl rfl) (Nat.le_of_ble_eq_true rfl) (by omega) dX3_finds_85 ?_
        refine z_iload F dX3_finds_86 rfl ?_
        refine z_ialdMN F rfl (by omega) (Nat.le_of_ble_eq_true rfl) (by omega) rfl dX3_finds_88 ?_
        refine z_ieq (hM (c i) q (by omega) (by omega)) ?_
        refine z_if_eqN F (by omega) (tgt := 126) dX3_finds_89 (by decide) (fun c_89 => ?_) (fun c_89 => ?_)
        · refine z_iincN F 1 dX3_finds_126 rfl rfl ?_
          refine z_leq (L' := [_, _, _, _, _, _, _]) rfl ?_
          refine z_goto F (tgt := 70) dX3_finds_129 (by decide) ?_
          exact ih (q + 1) many fr ln c (by omega) (by omega) hi hf hd (fun q' h1 h2 => by
            by_cases e : q' = q
            · subst e; exact absurd c_89 h2
            · exact hh q' (by omega) h2) kk
        · refine z_aload_n F dX3_finds_92 rfl ?_
          refine z_get F zC3 (f := 1) rfl (Nat.le_of_ble_eq_true rfl) q184 rfl dX3_finds_93 ?_
          refine z_iload F dX3_finds_96 rfl ?_
          refine z_ialdN F rfl (Nat.le_of_ble_eq_true rfl) (by omega) rfl dX3_finds_98 ?_
          refine z_iconst F (-1) dX3_finds_99 rfl ?_
          refine z_icmp_eq F (tgt := 106) dX3_finds_100 (by decide) (fun c_100 => ?_) (fun c_100 => ?_)
          · have hno : ∀ j, j < many → c j ≠ q := fun j hj e => (hf.vis hV (by omega)).mpr ⟨j, hj, e⟩ c_100
            have hlt := hf.lt (by omega) hno
            refine z_aload_n F dX3_finds_106 rfl ?_
            refine z_get F zC3 (f := 1) rfl (Nat.le_of_ble_eq_true rfl) q184 rfl dX3_finds_107 ?_
            refine z_iload F dX3_finds_110 rfl ?_
            refine z_iload F dX3_finds_112 rfl ?_
            refine z_iastN F rfl (Nat.le_of_ble_eq_true rfl) (by omega) dX3_finds_114 ?_
            refine z_weq (w' := [_, _, _, _, _]) rfl ?_
            refine z_aload_n F dX3_finds_115 rfl ?_
            refine z_get F zC3 (f := 2) rfl (Nat.le_of_ble_eq_true rfl) q185 rfl dX3_finds_116 ?_
            refine z_iload_n F dX3_finds_119 rfl ?_
            refine z_iload F dX3_finds_120 rfl ?_
            refine z_iastN F rfl (Nat.le_of_ble_eq_true rfl) (by omega) dX3_finds_122 ?_
            refine z_weq (w' := [_, _, _, _, _]) rfl ?_
            refine z_iincN F 1 dX3_finds_123 rfl rfl ?_
            refine z_leq (L' := [_, _, _, _, _, _, _]) rfl ?_
            refine z_iincN F 1 dX3_finds_126 rfl rfl ?_
            refine z_leq (L' := [_, _, _, _, _, _, _]) rfl ?_
            refine z_goto F (tgt := 70) dX3_finds_129 (by decide) ?_
            have e1 : ∀ k, k < many → (if k = many then q else c k) = c k := fun k hk => if_neg (by omega)
            have e2 : (if many = many then q else c many) = q := if_pos rfl
            have hn := ih (q + 1) (many + 1) _ _ (fun k => if k = many then q else c k) (by omega) (by omega) (by omega) (hf.add hi (by omega) hno c_89) (fun k hk q' hq' h2 => ?_) (fun q' h1 h2 => ?_) kk
            · rw [e1 i hi] at hn; exact hn
            · have h3 : R (if k = many then q else c k) q' ≠ 0 := h2
              rw [e1 k (by omega)] at h3
              obtain ⟨j, hj, e⟩ := hd k hk q' hq' h3
              exact ⟨j, by omega, (e1 j hj).trans e⟩
            · have h2 : R (if i = many then q else c i) q' ≠ 0 := h2
              rw [e1 i hi] at h2
              by_cases e : q' = q
              · exact ⟨many, by omega, e2.trans e.symm⟩
              · obtain ⟨j, hj, e⟩ := hh q' (by omega) h2
                exact ⟨j, by omega, (e1 j hj).trans e⟩
          · refine z_goto F (tgt := 126) dX3_finds_103 (by decide) ?_
            refine z_iincN F 1 dX3_finds_126 rfl rfl ?_
            refine z_leq (L' := [_, _, _, _, _, _, _]) rfl ?_
            refine z_goto F (tgt := 70) dX3_finds_129 (by decide) ?_
            exact ih (q + 1) many fr ln c (by omega) (by omega) hi hf hd (fun q' h1 h2 => by
              by_cases e : q' = q
              · subst e; exact (hf.vis hV (by omega)).mp c_100
              · exact hh q' (by omega) h2) kk
  have outer : ∀ (m i many : Nat) (fr ln : Nat → Int32) (c : Nat → Nat), 60 - i < m → i ≤ many → fnv R V a many fr ln c → fdn R V many c i → Z X [some (zr 1 0), some (zi (nI a)), some (zi (nI b)), some (zi (nI many)), some (zi (nI i)), none, none] [] [zH, zO 3 [zr 2 0, zr 3 0, zr 4 0, zi (nI V)], zMi 4 0 48 48 M, zAi 0 48 fr, zAi 0 48 ln] 0 0 42 := by
    intro m
    induction m with
    | zero => intro i many fr ln c hm; omega
    | succ m ih =>
      intro i many fr ln c hm hi hf hd
      have hmV := hf.le
      refine z_iload F dX3_finds_42 rfl ?_
      refine z_iload_n F dX3_finds_44 rfl ?_
      refine z_icmp_geN F (by omega) (by omega) (tgt := 138) dX3_finds_45 (by decide) (fun c_45 => ?_) (fun c_45 => ?_)
      · have ei : i = many := by omega
        subst ei
        refine z_loc _ ?_ (J i fr ln c hf (fun _ => hd))
        exact ⟨rfl, rfl, rfl, trivial⟩
      · refine z_aload_n F dX3_finds_48 rfl ?_
        refine z_get F zC3 (f := 1) rfl (Nat.le_of_ble_eq_true rfl) q184 rfl dX3_finds_49 ?_
        refine z_iload_n F dX3_finds_52 rfl ?_
        refine z_ialdN F rfl (Nat.le_of_ble_eq_true rfl) (by omega) rfl dX3_finds_53 ?_
        refine z_iconst F (-1) dX3_finds_54 rfl ?_
        refine z_icmp_ne F (tgt := 138) dX3_finds_55 (by decide) (fun c_55 => ?_) (fun c_55 => ?_)
        · refine z_loc _ ?_ (J many fr ln c hf (fun e => absurd e c_55))
          exact ⟨rfl, rfl, rfl, trivial⟩
        · refine z_aload_n F dX3_finds_58 rfl ?_
          refine z_get F zC3 (f := 2) rfl (Nat.le_of_ble_eq_true rfl) q185 rfl dX3_finds_59 ?_
          refine z_iload F dX3_finds_62 rfl ?_
          refine z_ialdN F rfl (Nat.le_of_ble_eq_true rfl) (by omega) rfl dX3_finds_64 ?_
          refine z_ieq ((hf.1 i (by omega)).1) ?_
          refine z_istore F dX3_finds_65 (Nat.le_of_ble_eq_true rfl) ?_
          refine z_leq (L' := [_, _, _, _, _, _, _]) rfl ?_
          refine z_iconst F (nI 0) dX3_finds_67 rfl ?_
          refine z_istore F dX3_finds_68 (Nat.le_of_ble_eq_true rfl) ?_
          refine z_leq (L' := [_, _, _, _, _, _, _]) rfl ?_
          exact inner i _ 0 many fr ln c (Nat.lt_succ_self _) (by omega) (by omega) hf hd (fun q' h => by omega) (fun many fr ln c h1 h2 h3 => ih (i + 1) many fr ln c (by omega) (by omega) h1 h3)
  have first : ∀ (m p : Nat) (fr : Nat → Int32), V - p < m → p ≤ V → (∀ q, q < p → fr q = -1) → Z X [some (zr 1 0), some (zi (nI a)), some (zi (nI b)), some (zi (nI p)), none, none, none] [] [zH, zO 3 [zr 2 0, zr 3 0, zr 4 0, zi (nI V)], zMi 4 0 48 48 M, zAi 0 48 fr, zAi 0 48 ln0] 0 0 2 := by
    intro m
    induction m with
    | zero => intro p fr hm; omega
    | succ m ih =>
      intro p fr hm hp hfr
      refine z_iload_n F dX3_finds_2 rfl ?_
      refine z_aload_n F dX3_finds_3 rfl ?_
      refine z_get F zC3 (f := 3) rfl (Nat.le_of_ble_eq_true rfl) q186 rfl dX3_finds_4 ?_
      refine z_icmp_geN F (by omega) (by omega) (tgt := 23) dX3_finds_7 (by decide) (fun c_7 => ?_) (fun c_7 => ?_)
      · have ep : p = V := by omega
        subst ep
        refine z_iconst F (nI 1) dX3_finds_23 rfl ?_
        refine z_istore_n F dX3_finds_24 (Nat.le_of_ble_eq_true rfl) ?_
        refine z_leq (L' := [_, _, _, _, _, _, _]) rfl ?_
        refine z_aload_n F dX3_finds_25 rfl ?_
        refine z_get F zC3 (f := 2) rfl (Nat.le_of_ble_eq_true rfl) q185 rfl dX3_finds_26 ?_
        refine z_iconst F (nI 0) dX3_finds_29 rfl ?_
        refine z_iload_n F dX3_finds_30 rfl ?_
        refine z_iastN F rfl (Nat.le_of_ble_eq_true rfl) (by omega) dX3_finds_31 ?_
        refine z_weq (w' := [_, _, _, _, _]) rfl ?_
        refine z_aload_n F dX3_finds_32 rfl ?_
        refine z_get F zC3 (f := 1) rfl (Nat.le_of_ble_eq_true rfl) q184 rfl dX3_finds_33 ?_
        refine z_iload_n F dX3_finds_36 rfl ?_
        refine z_iload_n F dX3_finds_37 rfl ?_
        refine z_iastN F rfl (Nat.le_of_ble_eq_true rfl) (by omega) dX3_finds_38 ?_
        refine z_weq (w' := [_, _, _, _, _]) rfl ?_
        refine z_iconst F (nI 0) dX3_finds_39 rfl ?_
        refine z_istore F dX3_finds_40 (Nat.le_of_ble_eq_true rfl) ?_
        refine z_leq (L' := [_, _, _, _, _, _, _]) rfl ?_
        refine outer _ 0 1 _ _ (fun _ => a) (Nat.lt_succ_self _) (by omega) ⟨fun j hj => ?_, rfl, by omega, fun i j hij hj => by omega, by rw [upd_at, if_pos rfl], fun j h0 hj => by omega, fun q hq hh => ?_⟩ (fun k hk => by omega)
        · obtain rfl : j = 0 := by omega
          exact ⟨by rw [upd_at, if_pos rfl], ha⟩
        · rw [upd_at, if_neg (fun z => hh 0 (by omega) z.symm)]; exact hfr q (by omega)
      · refine z_aload_n F dX3_finds_10 rfl ?_
        refine z_get F zC3 (f := 1) rfl (Nat.le_of_ble_eq_true rfl) q184 rfl dX3_finds_11 ?_
        refine z_iload_n F dX3_finds_14 rfl ?_
        refine z_iconst F (-1) dX3_finds_15 rfl ?_
        refine z_iastN F rfl (Nat.le_of_ble_eq_true rfl) (by omega) dX3_finds_16 ?_
        refine z_weq (w' := [_, _, _, _, _]) rfl ?_
        refine z_iincN F 1 dX3_finds_17 rfl rfl ?_
        refine z_leq (L' := [_, _, _, _, _, _, _]) rfl ?_
        refine z_goto F (tgt := 2) dX3_finds_20 (by decide) ?_
        refine ih (p + 1) _ (by omega) (by omega) (fun q hq => ?_)
        rw [upd_at]
        by_cases e : q = p
        · rw [if_pos e]
        · rw [if_neg e]; exact hfr q (by omega)
  refine z_iconst F (nI 0) dX3_finds_0 rfl ?_
  refine z_istore_n F dX3_finds_1 (Nat.le_of_ble_eq_true rfl) ?_
  refine z_leq (L' := [_, _, _, _, _, _, _]) rfl ?_
  exact first _ 0 _ (Nat.lt_succ_self _) (by omega) (fun q h => by omega)
theorem zup2_pair {M : Nat → Nat → Int32} {R : Nat → Nat → Nat} {V u v : Nat} (hM : ∀ p q, p < V → q < V → M p q = nI (R p q)) : ∀ p q, p < V → q < V → zup2 (zup2 M u v (nI (R u v - 1))) v u (nI (zup2 R u v (R u v - 1) v u + 1)) p q = nI (mvR R u v p q) := fun p q hp hq => zup2_nI (zup2_nI (hM p q hp hq))
theorem R0c_le (n : Nat) (f : Nat → Int32) {cp : Nat} (h : cp ≤ 24) (p q : Nat) : R0c n f cp p q ≤ 24 := by
  unfold R0c
  split
  · split <;> omega
  · split <;> omega
theorem flw_24 {n : Nat} {f : Nat → Int32} {cp a b w : Nat} {R : Nat → Nat → Nat} (hab : 2 * a + 1 ≠ 2 * b) (hn : n ≤ 24) (h : flw (R0c n f cp) R (2 * n) (2 * a + 1) (2 * b) w) : w ≤ 2400 := by
  have h1 := h.le hab
  rw [cutr_c] at h1
  unfold cutK at h1
  have h2 : fb_sm (fun x => (if (fun x => (fun q => decide (q = 2 * a + 1)) (2 * x)) x && !(fun x => (fun q => decide (q = 2 * a + 1)) (2 * x + 1)) x then cp else 0) + fb_sm (fun y => if (fun x => (fun q => decide (q = 2 * a + 1)) (2 * x + 1)) x && (!(fun x => (fun q => decide (q = 2 * a + 1)) (2 * x)) y && bt (f x) y) then 1 else 0) n) n ≤ n * 24 := fb_sm_bound fun x _ => by
    have e : decide (2 * x = 2 * a + 1) = false := decide_eq_false (by omega)
    simp only [e, Bool.false_and, if_false]
    have := fb_sm_bound (f := fun y => if decide (2 * x + 1 = 2 * a + 1) && (!decide (2 * y = 2 * a + 1) && bt (f x) y) then 1 else 0) (c := 1) (n := n) (fun k _ => by show (if _ then 1 else 0) ≤ 1; split <;> omega)
    simp only [Bool.false_eq_true, if_false]
    omega
  have h3 : n * 24 ≤ 24 * 24 := Nat.mul_le_mul_right _ hn
  exact Nat.le_trans h1 (Nat.le_trans h2 (by omega))
theorem c_fwMost (n a b : Nat) (d : Int32) (f : Nat → Int32) (kb : Bool) (pl : Int32) (M : Nat → Nat → Int32) (fr ln : Nat → Int32) (hn : n ≤ 24) (ha : a < n) (hb : b < n) : zCtr yX3_most cX3_most 7 (some .int) 2 0 0 [zr 1 0, zr 5 0, zi (nI a), zi (nI b), zi (bI kb)] (wFw (nI n) d f pl M fr ln) (fun r w => r = some (zi (nI (mfl n f (if kb then 1 else 24) a b))) ∧ ∃ pl M fr ln, w = wFw (nI n) d f pl M fr ln) zNx := by
  refine z_start (by decide) [some (zr 1 0), some (zr 5 0), some (zi (nI a)), some (zi (nI b)), some (zi (bI kb)), none, none] rfl (fun _ => Nat.le_of_ble_eq_true rfl) (fun _ => rfl) (fun X F E hno hin => ?_)
  have hcp : (if kb then 1 else 24) ≤ 24 := by cases kb <;> decide
  generalize hcpe : (if kb then 1 else 24) = cp at hcp
  have hab : 2 * a + 1 ≠ 2 * b := by omega
  have path : ∀ (w0 : Nat), ∀ (m j : Nat) (M1 : Nat → Nat → Int32) (R0 R : Nat → Nat → Nat) (fr ln : Nat → Int32) (c : Nat → Nat) (many : Nat), j < m → j < many → (∀ k, k < many → c k < 2 * n) → (∀ i k, i < k → k < many → c i ≠ c k) → c 0 = 2 * a + 1 → (∀ p q, R0 p q + R0 q p ≤ 48) → awy R0 R (2 * n) (2 * a + 1) (2 * b) fr c j → (∀ p q, p < 2 * n → q < 2 * n → M1 p q = nI (R p q)) →
      (∀ M2 R1, awy R0 R1 (2 * n) (2 * a + 1) (2 * b) fr c 0 → (∀ p q, p < 2 * n → q < 2 * n → M2 p q = nI (R1 p q)) → Z X [some (zr 1 0), some (zr 5 0), some (zi (nI a)), some (zi (nI b)), some (zi (bI kb)), some (zi (nI w0)), none] [] (wFw (nI n) d f (nI (2 * n)) M2 fr ln) 0 0 90) →
      Z X [some (zr 1 0), some (zr 5 0), some (zi (nI a)), some (zi (nI b)), some (zi (bI kb)), some (zi (nI w0)), some (zi (nI (c j)))] [] (wFw (nI n) d f (nI (2 * n)) M1 fr ln) 0 0 30 := by
    intro w0 m
    induction m with
    | zero => intro j M1 R0 R fr ln c many hm; omega
    | succ m ih =>
      intro j M1 R0 R fr ln c many hm hj hlt hinj h0 hR hw hM kk
      have hcj := hlt j hj
      refine z_iload F dX3_most_30 rfl ?_
      refine z_iconst F (nI 2) dX3_most_32 rfl ?_
      refine z_iload_n F dX3_most_33 rfl ?_
      refine z_imulN F dX3_most_34 ?_
      refine z_iconst F (nI 1) dX3_most_35 rfl ?_
      refine z_iaddN F dX3_most_36 ?_
      refine z_icmp_eqN F (by omega) (by omega) (tgt := 90) dX3_most_37 (by decide) (fun c_37 => ?_) (fun c_37 => ?_)
      · have hj0 : j = 0 := by
          rcases Nat.eq_zero_or_pos j with e | e
          · exact e
          · exact absurd (h0.trans c_37.symm) (hinj 0 j e hj)
        subst hj0
        refine z_loc _ ?_ (kk M1 R hw hM)
        exact ⟨rfl, rfl, rfl, rfl, rfl, rfl, trivial⟩
      · have hj0 : 0 < j := by
          rcases Nat.eq_zero_or_pos j with e | e
          · subst e; exact absurd h0 c_37
          · exact e
        obtain ⟨i, hi, e1, e2, e3, hw2⟩ := hw.step hj0 (fun k hk => hlt k (by omega)) (fun x k hxk hk => hinj x k hxk (by omega))
        have hci := hlt i (by omega)
        have hs := hw.2.1 (c i) (c j)
        have hs2 := hR (c i) (c j)
        refine z_aload_n F dX3_most_40 rfl ?_
        refine z_get F zC3 (f := 0) rfl (Nat.le_of_ble_eq_true rfl) q183 rfl dX3_most_41 ?_
        refine z_aload_n F dX3_most_44 rfl ?_
        refine z_get F zC3 (f := 1) rfl (Nat.le_of_ble_eq_true rfl) q184 rfl dX3_most_45 ?_
        refine z_iload F dX3_most_48 rfl ?_
        refine z_ialdN F rfl (Nat.le_of_ble_eq_true rfl) (by omega) rfl dX3_most_50 ?_
        refine z_ieq (e1) ?_
        refine z_aaldMN F rfl (Or.inl rfl) (Nat.le_of_ble_eq_true rfl) (by omega) dX3_most_51 ?_
        refine z_iload F dX3_most_52 rfl ?_
        refine z_dup2 F dX3_most_54 rfl rfl ?_
        refine z_ialdMN F rfl (by omega) (Nat.le_of_ble_eq_true rfl) (by omega) rfl dX3_most_55 ?_
        refine z_ieq (hM (c i) (c j) hci hcj) ?_
        refine z_iconst F (nI 1) dX3_most_56 rfl ?_
        refine z_isubN F (by omega) dX3_most_57 ?_
        refine z_iastMN F rfl (by omega) (Nat.le_of_ble_eq_true rfl) (by omega) dX3_most_58 ?_
        refine z_weq (w' := [_, _, _, _, _, _, _]) rfl ?_
        refine z_aload_n F dX3_most_59 rfl ?_
        refine z_get F zC3 (f := 0) rfl (Nat.le_of_ble_eq_true rfl) q183 rfl dX3_most_60 ?_
        refine z_iload F dX3_most_63 rfl ?_
        refine z_aaldMN F rfl (Or.inl rfl) (Nat.le_of_ble_eq_true rfl) (by omega) dX3_most_65 ?_
        refine z_aload_n F dX3_most_66 rfl ?_
        refine z_get F zC3 (f := 1) rfl (Nat.le_of_ble_eq_true rfl) q184 rfl dX3_most_67 ?_
        refine z_iload F dX3_most_70 rfl ?_
        refine z_ialdN F rfl (Nat.le_of_ble_eq_true rfl) (by omega) rfl dX3_most_72 ?_
        refine z_ieq (e1) ?_
        refine z_dup2 F dX3_most_73 rfl rfl ?_
        refine z_ialdMN F rfl (by omega) (Nat.le_of_ble_eq_true rfl) (by omega) rfl dX3_most_74 ?_
        refine z_ieq (zup2_nI (hM (c j) (c i) hcj hci)) ?_
        refine z_iconst F (nI 1) dX3_most_75 rfl ?_
        refine z_iaddN F dX3_most_76 ?_
        refine z_iastMN F rfl (by omega) (Nat.le_of_ble_eq_true rfl) (by omega) dX3_most_77 ?_
        refine z_weq (w' := [_, _, _, _, _, _, _]) rfl ?_
        refine z_aload_n F dX3_most_78 rfl ?_
        refine z_get F zC3 (f := 1) rfl (Nat.le_of_ble_eq_true rfl) q184 rfl dX3_most_79 ?_
        refine z_iload F dX3_most_82 rfl ?_
        refine z_ialdN F rfl (Nat.le_of_ble_eq_true rfl) (by omega) rfl dX3_most_84 ?_
        refine z_ieq (e1) ?_
        refine z_istore F dX3_most_85 (Nat.le_of_ble_eq_true rfl) ?_
        refine z_leq (L' := [_, _, _, _, _, _, _]) rfl ?_
        refine z_goto F (tgt := 30) dX3_most_87 (by decide) ?_
        exact ih i _ R0 (mvR R (c i) (c j)) fr ln c many (by omega) (by omega) hlt hinj h0 hR hw2 (zup2_pair hM) kk
  have loop : ∀ (m w0 : Nat) (M1 : Nat → Nat → Int32) (R : Nat → Nat → Nat) (fr ln : Nat → Int32), 3000 - w0 < m → flw (R0c n f cp) R (2 * n) (2 * a + 1) (2 * b) w0 → (∀ p q, p < 2 * n → q < 2 * n → M1 p q = nI (R p q)) → Z X [some (zr 1 0), some (zr 5 0), some (zi (nI a)), some (zi (nI b)), some (zi (bI kb)), some (zi (nI w0)), none] [] (wFw (nI n) d f (nI (2 * n)) M1 fr ln) 0 0 10 := by
    intro m
    induction m with
    | zero => intro w0 M1 R fr ln hm; omega
    | succ m ih =>
      intro w0 M1 R fr ln hm hfl hM
      have hR0 : ∀ p q, R0c n f cp p q + R0c n f cp q p ≤ 48 := fun p q => by
        have := R0c_le n f hcp p q
        have := R0c_le n f hcp q p
        omega
      have hR : ∀ p q, R p q + R q p ≤ 60 := fun p q => by have := hfl.1 p q; have := hR0 p q; omega
      have back : ∀ (M2 : Nat → Nat → Int32) (R1 : Nat → Nat → Nat) (fr ln : Nat → Int32), flw (R0c n f cp) R1 (2 * n) (2 * a + 1) (2 * b) (w0 + 1) → (∀ p q, p < 2 * n → q < 2 * n → M2 p q = nI (R1 p q)) → w0 + 1 ≤ 2400 → Z X [some (zr 1 0), some (zr 5 0), some (zi (nI a)), some (zi (nI b)), some (zi (bI kb)), some (zi (nI w0)), none] [] (wFw (nI n) d f (nI (2 * n)) M2 fr ln) 0 0 90 := by
        intro M2 R1 fr ln h1 h2 h3
        refine z_iincN F 1 dX3_most_90 rfl rfl ?_
        refine z_leq (L' := [_, _, _, _, _, _, _]) rfl ?_
        refine z_goto F (tgt := 10) dX3_most_93 (by decide) ?_
        exact ih (w0 + 1) M2 R1 fr ln (by omega) h1 h2
      refine z_aload_n F dX3_most_10 rfl ?_
      refine z_iconst F (nI 2) dX3_most_11 rfl ?_
      refine z_iload_n F dX3_most_12 rfl ?_
      refine z_imulN F dX3_most_13 ?_
      refine z_iconst F (nI 1) dX3_most_14 rfl ?_
      refine z_iaddN F dX3_most_15 ?_
      refine z_iconst F (nI 2) dX3_most_16 rfl ?_
      refine z_iload_n F dX3_most_17 rfl ?_
      refine z_imulN F dX3_most_18 ?_
      refine z_callV F (c_fwFinds (2 * n) (2 * a + 1) (2 * b) _ R _ _ (by omega) (by omega) (by omega) hM hR) 2 rfl (lw_V q853 q855 qs15 q111 q856) (by decide +kernel) ⟨Nat.le_of_ble_eq_true rfl, Nat.le_of_ble_eq_true rfl⟩ ⟨by omega, by omega⟩ [0, 1, 2, 3, 4] 7 ⟨rfl, rfl, rfl, ⟨Or.inl rfl, Or.inr rfl, Or.inr rfl, Or.inr rfl, Or.inr rfl, trivial⟩⟩ (fun h => nomatch h) (Nat.le_of_ble_eq_true rfl) ⟨⟨Or.inr trivial, Or.inl rfl, Or.inl rfl, Or.inl rfl, Or.inl rfl, Or.inr rfl, Or.inr trivial, trivial⟩, rfl, rfl, rfl, Nat.le_of_ble_eq_true rfl⟩ rfl zC3 rfl rfl dX3_most_19 (fun r_19 w_19 hp => ?_) (fun _ _ h => h.elim)
      obtain ⟨res, rfl, fr1, ln1, rfl, hyes, hno⟩ := hp
      refine z_weq (w' := [zH, zO _ [zr _ _, zr _ _, zr _ _, zi _], zMi 4 0 48 48 _, zAi 0 48 _, zAi 0 48 _, zO _ [zi _, zi _, zr _ _], zAi 0 24 _]) rfl ?_
      refine z_seq (S' := zi _ :: _) rfl ?_
      refine z_if_eqB F (tgt := 96) dX3_most_22 (by decide) (fun c_22 => ?_) (fun c_22 => ?_)
      · refine z_iload F dX3_most_96 rfl ?_
        exact z_iret F E rfl dX3_most_98 (by omega) (by omega) (⟨by rw [hcpe, mfl_of (isMin_c (hfl.done (hno c_22)))], _, _, _, _, rfl⟩)
      · obtain ⟨many, c, j, hf, hj, hcj⟩ := hyes c_22
        refine z_iconst F (nI 2) dX3_most_25 rfl ?_
        refine z_iload_n F dX3_most_26 rfl ?_
        refine z_imulN F dX3_most_27 ?_
        refine z_istore F dX3_most_28 (Nat.le_of_ble_eq_true rfl) ?_
        refine z_leq (L' := [_, _, _, _, _, _, _]) rfl ?_
        refine z_leq (L' := [some (zr 1 0), some (zr 5 0), some (zi (nI a)), some (zi (nI b)), some (zi (bI kb)), some (zi (nI w0)), some (zi (nI (c j)))]) (by rw [hcj]) ?_
        refine path w0 _ j _ R R fr1 ln1 c many (Nat.lt_succ_self _) hj (fun k hk => (hf.1 k hk).2) hf.2.2.2.1 hf.2.1 (fun p q => by have := hfl.1 p q; have := hR0 p q; omega) (by have := hf.way hj; rw [hcj] at this; exact this) hM (fun M2 R1 h1 h2 => ?_)
        have hfl2 := hfl.next h1 hf.2.1
        have hle := flw_24 hab (by omega) hfl2
        exact back M2 R1 fr1 ln1 hfl2 h2 (by omega)
  refine z_aload_n F dX3_most_0 rfl ?_
  refine z_aload_n F dX3_most_1 rfl ?_
  refine z_iload F dX3_most_2 rfl ?_
  refine z_callV F (c_fwLay n d f kb _ _ _ _ hn) 2 rfl (lw_V q848 q850 qs14 q111 q851) (by decide +kernel) ⟨Nat.le_of_ble_eq_true rfl, Nat.le_of_ble_eq_true rfl⟩ ⟨by omega, by omega⟩ [0, 1, 2, 3, 4, 5, 6] 7 ⟨rfl, rfl, rfl, ⟨Or.inl rfl, Or.inr rfl, Or.inr rfl, Or.inr rfl, Or.inr rfl, Or.inr rfl, Or.inr rfl, trivial⟩⟩ (fun h => nomatch h) (Nat.le_of_ble_eq_true rfl) ⟨⟨Or.inr trivial, Or.inl rfl, Or.inl rfl, Or.inl rfl, Or.inl rfl, Or.inl rfl, Or.inl rfl, trivial⟩, rfl, rfl, rfl, Nat.le_of_ble_eq_true rfl⟩ rfl zC3 rfl rfl dX3_most_4 (fun r_4 w_4 hp => ?_) (fun _ _ h => h.elim)
  obtain ⟨rfl, M1, rfl, hM1⟩ := hp
  refine z_weq (w' := [zH, zO _ [zr _ _, zr _ _, zr _ _, zi _], zMi 4 0 48 48 _, zAi 0 48 _, zAi 0 48 _, zO _ [zi _, zi _, zr _ _], zAi 0 24 _]) rfl ?_
  refine z_seq (S' := []) rfl ?_
  refine z_iconst F (nI 0) dX3_most_7 rfl ?_
  refine z_istore F dX3_most_8 (Nat.le_of_ble_eq_true rfl) ?_
  refine z_leq (L' := [_, _, _, _, _, _, _]) rfl ?_
  rw [hcpe] at hM1
  exact loop _ 0 M1 (R0c n f cp) _ _ (Nat.lt_succ_self _) flw.rf hM1
theorem c_fwThin (n : Nat) (d : Int32) (f : Nat → Int32) (pl : Int32) (M : Nat → Nat → Int32) (fr ln : Nat → Int32) (hn : n ≤ 24) (h1 : 1 ≤ n) : zCtr yX3_thin cX3_thin 4 (some .int) 3 0 0 [zr 1 0, zr 5 0] (wFw (nI n) d f pl M fr ln) (fun r w => r = some (zi (if n = 1 then -1 else nI (lsf (fun b => mfl n f 24 0 b) 24 n))) ∧ ∃ pl M fr ln, w = wFw (nI n) d f pl M fr ln) zNx := by
  refine z_start (by decide) [some (zr 1 0), some (zr 5 0), none, none] rfl (fun _ => Nat.le_of_ble_eq_true rfl) (fun _ => rfl) (fun X F E hno hin => ?_)
  have loop : ∀ (m b : Nat) (pl : Int32) (M : Nat → Nat → Int32) (fr ln : Nat → Int32), n - b < m → 1 ≤ b → b ≤ n → Z X [some (zr 1 0), some (zr 5 0), some (zi (nI (lsf (fun b => mfl n f 24 0 b) 24 b))), some (zi (nI b))] [] (wFw (nI n) d f pl M fr ln) 0 0 5 := by
    intro m
    induction m with
    | zero => intro b pl M fr ln hm; omega
    | succ m ih =>
      intro b pl M fr ln hm hb1 hb
      have hl := lsf_le (fun b => mfl n f 24 0 b) 24 b
      refine z_iload_n F dX3_thin_5 rfl ?_
      refine z_aload_n F dX3_thin_6 rfl ?_
      refine z_getN F zC5 (f := 0) rfl (Nat.le_of_ble_eq_true rfl) q241 rfl dX3_thin_7 ?_
      refine z_icmp_geN F (by omega) (by omega) (tgt := 32) dX3_thin_10 (by decide) (fun c_10 => ?_) (fun c_10 => ?_)
      · have eb : b = n := by omega
        subst eb
        refine z_aload_n F dX3_thin_32 rfl ?_
        refine z_getN F zC5 (f := 0) rfl (Nat.le_of_ble_eq_true rfl) q241 rfl dX3_thin_33 ?_
        refine z_iconst F (nI 1) dX3_thin_36 rfl ?_
        refine z_icmp_neN F (by omega) (by omega) (tgt := 44) dX3_thin_37 (by decide) (fun c_37 => ?_) (fun c_37 => ?_)
        · refine z_iload_n F dX3_thin_44 rfl ?_
          exact z_iret F E rfl dX3_thin_45 (by omega) (by omega) (⟨by rw [if_neg c_37], pl, M, fr, ln, rfl⟩)
        · refine z_iconst F (-1) dX3_thin_40 rfl ?_
          refine z_goto F (tgt := 45) dX3_thin_41 (by decide) ?_
          exact z_iret F E rfl dX3_thin_45 (by omega) (by omega) (⟨by rw [if_pos c_37], pl, M, fr, ln, rfl⟩)
      · refine z_iload_n F dX3_thin_13 rfl ?_
        refine z_aload_n F dX3_thin_14 rfl ?_
        refine z_aload_n F dX3_thin_15 rfl ?_
        refine z_iconst F (nI 0) dX3_thin_16 rfl ?_
        refine z_iload_n F dX3_thin_17 rfl ?_
        refine z_iconstB F false dX3_thin_18 rfl ?_
        refine z_callV F (c_fwMost n 0 b d f false _ _ _ _ hn (by omega) (by omega)) 4 rfl (lw_V q844 q845 q846 q111 q847) (by decide +kernel) ⟨Nat.le_of_ble_eq_true rfl, Nat.le_of_ble_eq_true rfl⟩ ⟨by omega, by omega⟩ [0, 1, 2, 3, 4, 5, 6] 7 ⟨rfl, rfl, rfl, ⟨Or.inl rfl, Or.inr rfl, Or.inr rfl, Or.inr rfl, Or.inr rfl, Or.inr rfl, Or.inr rfl, trivial⟩⟩ (fun h => nomatch h) (Nat.le_of_ble_eq_true rfl) ⟨⟨Or.inr trivial, Or.inl rfl, Or.inl rfl, Or.inl rfl, Or.inl rfl, Or.inl rfl, Or.inl rfl, trivial⟩, rfl, rfl, rfl, Nat.le_of_ble_eq_true rfl⟩ rfl zC3 rfl rfl dX3_thin_19 (fun r_19 w_19 hp => ?_) (fun _ _ h => h.elim)
        obtain ⟨rfl, pl, M, fr, ln, rfl⟩ := hp
        refine z_weq (w' := [zH, zO _ [zr _ _, zr _ _, zr _ _, zi _], zMi 4 0 48 48 _, zAi 0 48 _, zAi 0 48 _, zO _ [zi _, zi _, zr _ _], zAi 0 24 _]) rfl ?_
        refine z_seq (S' := zi _ :: _) rfl ?_
        refine z_mmin F q857 dX3_thin_22 (Nat.le_of_ble_eq_true rfl) rfl (Nat.le_of_ble_eq_true rfl) ⟨by omega, by omega⟩ ?_
        refine z_ieq (mminN (by omega) (mfl_lt hn (by omega) (by omega))) ?_
        refine z_istore_n F dX3_thin_25 (Nat.le_of_ble_eq_true rfl) ?_
        refine z_leq (L' := [_, _, _, _]) rfl ?_
        refine z_iincN F 1 dX3_thin_26 rfl rfl ?_
        refine z_leq (L' := [_, _, _, _]) rfl ?_
        refine z_goto F (tgt := 5) dX3_thin_29 (by decide) ?_
        refine z_leq (L' := [some (zr 1 0), some (zr 5 0), some (zi (nI (lsf (fun b => mfl n f 24 0 b) 24 (b + 1)))), some (zi (nI (b + 1)))]) (by rw [lsf_s hb1]; rfl) ?_
        exact ih (b + 1) _ _ _ _ (by omega) (by omega) (by omega)
  refine z_bipush F (nI 24) dX3_thin_0 rfl ?_
  refine z_istore_n F dX3_thin_2 (Nat.le_of_ble_eq_true rfl) ?_
  refine z_leq (L' := [_, _, _, _]) rfl ?_
  refine z_iconst F (nI 1) dX3_thin_3 rfl ?_
  refine z_istore_n F dX3_thin_4 (Nat.le_of_ble_eq_true rfl) ?_
  refine z_leq (L' := [_, _, _, _]) rfl ?_
  refine loop _ 1 _ _ _ _ (Nat.lt_succ_self _) (by omega) (by omega)
theorem c_fwThinK (n : Nat) (d : Int32) (f : Nat → Int32) (pl : Int32) (M : Nat → Nat → Int32) (fr ln : Nat → Int32) (hn : n ≤ 24) (h1 : 1 ≤ n) : zCtr yX3_thinKnots cX3_thinKnots 5 (some .int) 3 0 0 [zr 1 0, zr 5 0] (wFw (nI n) d f pl M fr ln) (fun r w => r = some (zi (nI (tka (fun a b => mfl n f 1 a b) n f n))) ∧ ∃ pl M fr ln, w = wFw (nI n) d f pl M fr ln) zNx := by
  refine z_start (by decide) [some (zr 1 0), some (zr 5 0), none, none, none] rfl (fun _ => Nat.le_of_ble_eq_true rfl) (fun _ => rfl) (fun X F E hno hin => ?_)
  have inner : ∀ (a : Nat), a < n → ∀ (m b : Nat) (pl : Int32) (M : Nat → Nat → Int32) (fr ln : Nat → Int32), n + 1 - b < m → a < b → b ≤ n → (∀ pl M fr ln, Z X [some (zr 1 0), some (zr 5 0), some (zi (nI (tka (fun a b => mfl n f 1 a b) n f (a + 1)))), some (zi (nI (a + 1))), none] [] (wFw (nI n) d f pl M fr ln) 0 0 9) → Z X [some (zr 1 0), some (zr 5 0), some (zi (nI (tkr (fun a b => mfl n f 1 a b) f a (tka (fun a b => mfl n f 1 a b) n f a) b))), some (zi (nI a)), some (zi (nI b))] [] (wFw (nI n) d f pl M fr ln) 0 0 22 := by
    intro a ha m
    induction m with
    | zero => intro b pl M fr ln hm; omega
    | succ m ih =>
      intro b pl M fr ln hm hab hb kk
      have hl := tkr_le (fun a b => mfl n f 1 a b) f a (tka (fun a b => mfl n f 1 a b) n f a) b
      have hl2 := tka_le (fun a b => mfl n f 1 a b) n f a
      refine z_iload F dX3_thinKnots_22 rfl ?_
      refine z_aload_n F dX3_thinKnots_24 rfl ?_
      refine z_getN F zC5 (f := 0) rfl (Nat.le_of_ble_eq_true rfl) q241 rfl dX3_thinKnots_25 ?_
      refine z_icmp_geN F (by omega) (by omega) (tgt := 61) dX3_thinKnots_28 (by decide) (fun c_28 => ?_) (fun c_28 => ?_)
      · have eb : b = n := by omega
        subst eb
        refine z_iincN F 1 dX3_thinKnots_61 rfl rfl ?_
        refine z_leq (L' := [_, _, _, _, _]) rfl ?_
        refine z_goto F (tgt := 9) dX3_thinKnots_64 (by decide) ?_
        refine z_loc _ ?_ (kk pl M fr ln)
        exact ⟨rfl, rfl, rfl, rfl, trivial⟩
      · refine z_aload_n F dX3_thinKnots_31 rfl ?_
        refine z_iload_n F dX3_thinKnots_32 rfl ?_
        refine z_iload F dX3_thinKnots_33 rfl ?_
        refine z_callV F (c_has (nI n) d f a b (by omega) (by omega)) 2 rfl (lw_V q852 q508 q509 q116 q510) (by decide +kernel) ⟨Nat.le_of_ble_eq_true rfl, Nat.le_of_ble_eq_true rfl⟩ ⟨by omega, by omega⟩ [0, 5, 6] 7 ⟨rfl, rfl, rfl, ⟨Or.inl rfl, Or.inr rfl, Or.inr rfl, trivial⟩⟩ (fun h => nomatch h) (Nat.le_of_ble_eq_true rfl) ⟨⟨Or.inr trivial, Or.inr rfl, Or.inr trivial, Or.inr trivial, Or.inr trivial, Or.inl rfl, Or.inl rfl, trivial⟩, rfl, rfl, rfl, Nat.le_of_ble_eq_true rfl⟩ rfl zC5 rfl rfl dX3_thinKnots_35 (fun r_35 w_35 hp => ?_) (fun _ _ h => h.elim)
        obtain ⟨rfl, rfl⟩ := hp
        refine z_weq (w' := [zH, zO _ [zr _ _, zr _ _, zr _ _, zi _], zMi 4 0 48 48 _, zAi 0 48 _, zAi 0 48 _, zO _ [zi _, zi _, zr _ _], zAi 0 24 _]) rfl ?_
        refine z_seq (S' := zi _ :: _) rfl ?_
        refine z_if_neB F (tgt := 55) dX3_thinKnots_38 (by decide) (fun c_38 => ?_) (fun c_38 => ?_)
        · refine z_iincN F 1 dX3_thinKnots_55 rfl rfl ?_
          refine z_leq (L' := [_, _, _, _, _]) rfl ?_
          refine z_goto F (tgt := 22) dX3_thinKnots_58 (by decide) ?_
          refine z_leq (L' := [some (zr 1 0), some (zr 5 0), some (zi (nI (tkr (fun a b => mfl n f 1 a b) f a (tka (fun a b => mfl n f 1 a b) n f a) (b + 1)))), some (zi (nI a)), some (zi (nI (b + 1)))]) (by rw [tkr_n c_38]) ?_
          exact ih (b + 1) _ _ _ _ (by omega) (by omega) (by omega) kk
        · refine z_iload_n F dX3_thinKnots_41 rfl ?_
          refine z_aload_n F dX3_thinKnots_42 rfl ?_
          refine z_aload_n F dX3_thinKnots_43 rfl ?_
          refine z_iload_n F dX3_thinKnots_44 rfl ?_
          refine z_iload F dX3_thinKnots_45 rfl ?_
          refine z_iconstB F true dX3_thinKnots_47 rfl ?_
          refine z_callV F (c_fwMost n a b d f true _ _ _ _ hn ha (by omega)) 4 rfl (lw_V q844 q845 q846 q111 q847) (by decide +kernel) ⟨Nat.le_of_ble_eq_true rfl, Nat.le_of_ble_eq_true rfl⟩ ⟨by omega, by omega⟩ [0, 1, 2, 3, 4, 5, 6] 7 ⟨rfl, rfl, rfl, ⟨Or.inl rfl, Or.inr rfl, Or.inr rfl, Or.inr rfl, Or.inr rfl, Or.inr rfl, Or.inr rfl, trivial⟩⟩ (fun h => nomatch h) (Nat.le_of_ble_eq_true rfl) ⟨⟨Or.inr trivial, Or.inl rfl, Or.inl rfl, Or.inl rfl, Or.inl rfl, Or.inl rfl, Or.inl rfl, trivial⟩, rfl, rfl, rfl, Nat.le_of_ble_eq_true rfl⟩ rfl zC3 rfl rfl dX3_thinKnots_48 (fun r_48 w_48 hp => ?_) (fun _ _ h => h.elim)
          obtain ⟨rfl, pl, M, fr, ln, rfl⟩ := hp
          refine z_weq (w' := [zH, zO _ [zr _ _, zr _ _, zr _ _, zi _], zMi 4 0 48 48 _, zAi 0 48 _, zAi 0 48 _, zO _ [zi _, zi _, zr _ _], zAi 0 24 _]) rfl ?_
          refine z_seq (S' := zi _ :: _) rfl ?_
          refine z_mmin F q857 dX3_thinKnots_51 (Nat.le_of_ble_eq_true rfl) rfl (Nat.le_of_ble_eq_true rfl) ⟨by omega, by omega⟩ ?_
          refine z_ieq (mminN (by omega) (mfl_lt hn (by omega) ha)) ?_
          refine z_istore_n F dX3_thinKnots_54 (Nat.le_of_ble_eq_true rfl) ?_
          refine z_leq (L' := [_, _, _, _, _]) rfl ?_
          refine z_iincN F 1 dX3_thinKnots_55 rfl rfl ?_
          refine z_leq (L' := [_, _, _, _, _]) rfl ?_
          refine z_goto F (tgt := 22) dX3_thinKnots_58 (by decide) ?_
          refine z_leq (L' := [some (zr 1 0), some (zr 5 0), some (zi (nI (tkr (fun a b => mfl n f 1 a b) f a (tka (fun a b => mfl n f 1 a b) n f a) (b + 1)))), some (zi (nI a)), some (zi (nI (b + 1)))]) (by rw [tkr_y hab c_38]; rfl) ?_
          exact ih (b + 1) _ _ _ _ (by omega) (by omega) (by omega) kk
  have outer : ∀ (m a : Nat) (pl : Int32) (M : Nat → Nat → Int32) (fr ln : Nat → Int32), n - a < m → a ≤ n → Z X [some (zr 1 0), some (zr 5 0), some (zi (nI (tka (fun a b => mfl n f 1 a b) n f a))), some (zi (nI a)), none] [] (wFw (nI n) d f pl M fr ln) 0 0 9 := by
    intro m
    induction m with
    | zero => intro a pl M fr ln hm; omega
    | succ m ih =>
      intro a pl M fr ln hm ha
      refine z_iload_n F dX3_thinKnots_9 rfl ?_
      refine z_aload_n F dX3_thinKnots_10 rfl ?_
      refine z_getN F zC5 (f := 0) rfl (Nat.le_of_ble_eq_true rfl) q241 rfl dX3_thinKnots_11 ?_
      refine z_icmp_geN F (by omega) (by omega) (tgt := 67) dX3_thinKnots_14 (by decide) (fun c_14 => ?_) (fun c_14 => ?_)
      · have ea : a = n := by omega
        subst ea
        refine z_iload_n F dX3_thinKnots_67 rfl ?_
        exact z_iret F E rfl dX3_thinKnots_68 (by omega) (by omega) (⟨rfl, pl, M, fr, ln, rfl⟩)
      · refine z_iload_n F dX3_thinKnots_17 rfl ?_
        refine z_iconst F (nI 1) dX3_thinKnots_18 rfl ?_
        refine z_iaddN F dX3_thinKnots_19 ?_
        refine z_istore F dX3_thinKnots_20 (Nat.le_of_ble_eq_true rfl) ?_
        refine z_leq (L' := [_, _, _, _, _]) rfl ?_
        refine z_leq (L' := [some (zr 1 0), some (zr 5 0), some (zi (nI (tkr (fun a b => mfl n f 1 a b) f a (tka (fun a b => mfl n f 1 a b) n f a) (a + 1)))), some (zi (nI a)), some (zi (nI (a + 1)))]) (by rw [tkr_lo _ _ _ _ _ (Nat.le_refl _)]) ?_
        exact inner a (by omega) _ (a + 1) _ _ _ _ (Nat.lt_succ_self _) (by omega) (by omega) (fun pl M fr ln => ih (a + 1) pl M fr ln (by omega) (by omega))
  refine z_aload_n F dX3_thinKnots_0 rfl ?_
  refine z_getN F zC5 (f := 0) rfl (Nat.le_of_ble_eq_true rfl) q241 rfl dX3_thinKnots_1 ?_
  refine z_iconst F (nI 1) dX3_thinKnots_4 rfl ?_
  refine z_isubN F (by omega) dX3_thinKnots_5 ?_
  refine z_istore_n F dX3_thinKnots_6 (Nat.le_of_ble_eq_true rfl) ?_
  refine z_leq (L' := [_, _, _, _, _]) rfl ?_
  refine z_iconst F (nI 0) dX3_thinKnots_7 rfl ?_
  refine z_istore_n F dX3_thinKnots_8 (Nat.le_of_ble_eq_true rfl) ?_
  refine z_leq (L' := [_, _, _, _, _]) rfl ?_
  exact outer _ 0 _ _ _ _ (Nat.lt_succ_self _) (by omega)
end C48
