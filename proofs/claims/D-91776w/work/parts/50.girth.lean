/-! girths; what is asked of one net: the reference's and WiredNets' own -/
section C50
def la (l : List (Nat × Nat)) (i : Nat) : Nat := (l.getD i (0, 0)).1
def lb (l : List (Nat × Nat)) (i : Nat) : Nat := (l.getD i (0, 0)).2
theorem prs_at {n : Nat} {f : Nat → Int32} {i : Nat} (hi : i < (prs n f).length) : la (prs n f) i < lb (prs n f) i ∧ lb (prs n f) i < n ∧ bt (f (la (prs n f) i)) (lb (prs n f) i) = true := by
  have h : (prs n f).getD i (0, 0) ∈ prs n f := by
    have : (prs n f).getD i (0, 0) = (prs n f)[i] := by simp [hi]
    rw [this]; exact List.getElem_mem hi
  exact mem_prs.mp h
theorem rw1 {l : List (Nat × Nat)} {r0 : Nat → Int32} {i : Nat} (h : i < l.length) : rowA l r0 i = nI (32 * la l i + lb l i) := if_pos h
theorem pc_hi {a b : Nat} (ha : a < 32) (hb : b < 32) : nI (32 * a + b) >>> (nI 5 &&& 31) = nI a := (by decide +kernel : ∀ a, a < 32 → ∀ b, b < 32 → nI (32 * a + b) >>> (nI 5 &&& 31) = nI a) a ha b hb
theorem pc_lo {a b : Nat} (ha : a < 32) (hb : b < 32) : nI (32 * a + b) &&& nI 31 = nI b := (by decide +kernel : ∀ a, a < 32 → ∀ b, b < 32 → nI (32 * a + b) &&& nI 31 = nI b) a ha b hb
theorem jn_pt {f : Nat → Int32} {a b : Nat} (ha : a < 32) (hb : b < 32) (hab : a ≠ b) (h1 : bt (f a) b = true) (h2 : bt (f b) a = true) : jn (pt f a b) a b = f := by
  have e : ∀ (x : Int32) (k : Nat), k < 32 → bt x k = true → (x &&& (b1 k ^^^ (-1))) ||| b1 k = x := fun x k hk h => b_ext fun i hi => by
    rw [bt_or1 _ hk, bt_clr _ hk hi]
    by_cases q : i = k
    · subst q; simp [h]
    · simp [q]
  have e1 : pt f a b a = f a &&& (b1 b ^^^ (-1)) := by
    unfold pt; rw [upd_at, if_neg hab, upd_at, if_pos rfl]
  have e2 : pt f a b b = f b &&& (b1 a ^^^ (-1)) := by
    unfold pt; rw [upd_at, if_pos rfl, upd_at, if_neg (fun z => hab z.symm)]
  funext k
  unfold jn
  rw [upd_at]
  by_cases q1 : k = b
  · rw [if_pos q1, upd_at, if_neg (fun z => hab z.symm), e2, q1]
    exact e (f b) a ha h2
  · rw [if_neg q1, upd_at]
    by_cases q2 : k = a
    · rw [if_pos q2, e1, q2]
      exact e (f a) b hb h1
    · rw [if_neg q2]
      unfold pt
      rw [upd_at, if_neg q1, upd_at, if_neg q2]
def gmn (x y : Option Nat) : Option Nat := match x with
  | none => y
  | some d => match y with
    | none => some (d + 1)
    | some b => if d + 1 < b then some (d + 1) else some b
def grf (n : Nat) (f : Nat → Int32) (l : List (Nat × Nat)) : Nat → Option Nat
  | 0 => none
  | i + 1 => gmn (dst n (pt f (la l i) (lb l i)) (allB n) (la l i) (lb l i)) (grf n f l i)
theorem gmn_lt {x y : Option Nat} (hx : ∀ d, x = some d → d < 32) (hy : ∀ d, y = some d → d < 40) : ∀ d, gmn x y = some d → d < 40 := fun d h => by
  cases x with
  | none => exact hy d h
  | some e =>
    have := hx e rfl
    cases y with
    | none => simp only [gmn, Option.some.injEq] at h; omega
    | some b =>
      have := hy b rfl
      simp only [gmn] at h
      split at h <;> simp only [Option.some.injEq] at h <;> omega
theorem grf_lt {n : Nat} {f : Nat → Int32} {l : List (Nat × Nat)} (hl : ∀ i, i < l.length → lb l i < 32) : ∀ i, i ≤ l.length → ∀ d, grf n f l i = some d → d < 40
  | 0, _, d, h => by cases h
  | i + 1, hi, d, h => gmn_lt (fun e he => dst_lt he (hl i (by omega))) (grf_lt hl i (by omega)) d h
theorem dI_no {o : Option Nat} (h : ∀ d, o = some d → d < 2 ^ 31) : dI o = -1 ↔ o = none := by
  cases o with
  | none => exact ⟨fun _ => rfl, fun _ => rfl⟩
  | some d => exact ⟨fun q => absurd q (nI_ne (h d rfl)), fun q => nomatch q⟩
theorem gmn_0 {x y : Option Nat} (hx : ∀ d, x = some d → d < 32) (h : dI x = -1) : dI (gmn x y) = dI y := by
  rw [dI_no (fun d q => by have := hx d q; omega)] at h
  rw [h]; rfl
theorem gmn_1 {x y : Option Nat} (hx : ∀ d, x = some d → d < 32) (hy : ∀ d, y = some d → d < 40) (h : ¬ dI x = -1) (h2 : dI y = -1) : dI (gmn x y) = dI x + nI 1 := by
  rw [dI_no (fun d q => by have := hy d q; omega)] at h2
  cases x with
  | none => exact absurd rfl h
  | some d => rw [h2]; show nI (d + 1) = nI d + nI 1; rw [nI_add]
theorem gmn_2 {x y : Option Nat} (hx : ∀ d, x = some d → d < 32) (hy : ∀ d, y = some d → d < 40) (h : ¬ dI x = -1) (h2 : ¬ dI y = -1) (h3 : dI y ≤ dI x + nI 1) : dI (gmn x y) = dI y := by
  cases x with
  | none => exact absurd rfl h
  | some d => cases y with
    | none => exact absurd rfl h2
    | some b =>
      have hd := hx d rfl
      have hb := hy b rfl
      have h4 : nI b ≤ nI d + nI 1 := h3
      rw [nI_add] at h4
      have h5 : ¬ d + 1 < b := fun q => Int32.not_le.mpr ((nI_ltI (by omega) (by omega)).mpr q) h4
      show dI (if d + 1 < b then some (d + 1) else some b) = nI b
      rw [if_neg h5]; rfl
theorem gmn_3 {x y : Option Nat} (hx : ∀ d, x = some d → d < 32) (hy : ∀ d, y = some d → d < 40) (h : ¬ dI x = -1) (h2 : ¬ dI y = -1) (h3 : ¬ dI y ≤ dI x + nI 1) : dI (gmn x y) = dI x + nI 1 := by
  cases x with
  | none => exact absurd rfl h
  | some d => cases y with
    | none => exact absurd rfl h2
    | some b =>
      have hd := hx d rfl
      have hb := hy b rfl
      have h4 : ¬ nI b ≤ nI d + nI 1 := h3
      rw [nI_add] at h4
      have h5 : d + 1 < b := (nI_ltI (by omega) (by omega)).mp (Int32.not_le.mp h4)
      show dI (if d + 1 < b then some (d + 1) else some b) = nI d + nI 1
      rw [if_pos h5, nI_add]; rfl
theorem c_setj (n d : Int32) (f : Nat → Int32) (a b : Nat) (ha : a < 24) (hb : b < 24) : zCtr yX5_set cX5_set 3 none 0 0 0 [zr 1 0, zi (nI a), zi (nI b)] [zH, eNet 2 n d, zAi 0 24 f] (fun r w => r = none ∧ w = [zH, eNet 2 n d, zAi 0 24 (jn f a b)]) zNx := c_set n d f a b ha hb
theorem c_girth (n d : Nat) (f : Nat → Int32) (sn0 g0 sm0 : Int32) (D : Nat → Int32) (h : nok n d f) : zCtr yX2_girth cX2_girth 6 (some .int) 4 1 100 [zr 1 0, zr 3 0] (wFl (nI n) (nI d) f sn0 g0 sm0 D) (fun r w => r = some (zi (dI (grf n f (prs n f) (prs n f).length))) ∧ ∃ sn1 g1 sm1 D1 R1, w = wFl (nI n) (nI d) f sn1 g1 sm1 D1 ++ [zAi 0 (prs n f).length R1]) zNx := by
  refine z_start (by decide) [some (zr 1 0), some (zr 3 0), none, none, none, none] rfl (fun _ => Nat.le_of_ble_eq_true rfl) (fun _ => rfl) (fun X F E hno hin => ?_)
  have hn := h.n24
  have h96 := prs_96 h
  have hl32 : ∀ i, i < (prs n f).length → lb (prs n f) i < 32 := fun i hi => by have := prs_at hi; omega
  have loop : ∀ (m i : Nat) (sn1 g1 sm1 : Int32) (D1 : Nat → Int32), (prs n f).length - i < m → i ≤ (prs n f).length → Z X [some (zr 1 0), some (zr 3 0), some (zi (dI (grf n f (prs n f) i))), some (zr 5 0), some (zi (nI i)), none] [] (wFl (nI n) (nI d) f sn1 g1 sm1 D1 ++ [zAi 0 (prs n f).length (rowA (prs n f) (fun _ => 0))]) 1 100 10 := by
    intro m
    induction m with
    | zero => intro i sn1 g1 sm1 D1 hm; omega
    | succ m ih =>
      intro i sn1 g1 sm1 D1 hm hi
      refine z_iload F dX2_girth_10 rfl ?_
      refine z_aload_n F dX2_girth_12 rfl ?_
      refine z_alenN F (fun _ => rfl) rfl dX2_girth_13 ?_
      refine z_icmp_geN F (by omega) (by omega) (tgt := 101) dX2_girth_14 (by decide) (fun c_14 => ?_) (fun c_14 => ?_)
      · have ei : i = (prs n f).length := by omega
        refine z_iload_n F dX2_girth_101 rfl ?_
        exact z_iret F E rfl dX2_girth_102 (by omega) (by omega) (⟨by rw [ei], _, _, _, _, _, rfl⟩)
      · obtain ⟨p1, p2, p3⟩ := prs_at c_14
        have p4 : bt (f (lb (prs n f) i)) (la (prs n f) i) = true := by rw [← h.sym (by omega) p2]; exact p3
        have hx : ∀ e, dst n (pt f (la (prs n f) i) (lb (prs n f) i)) (allB n) (la (prs n f) i) (lb (prs n f) i) = some e → e < 32 := fun e he => dst_lt he (by omega)
        have hy := grf_lt (n := n) (f := f) hl32 i hi
        refine z_aload_n F dX2_girth_17 rfl ?_
        refine z_aload_n F dX2_girth_18 rfl ?_
        refine z_iload F dX2_girth_19 rfl ?_
        refine z_ialdN F rfl (by omega) (by omega) rfl dX2_girth_21 ?_
        refine z_ieq (rw1 c_14) ?_
        refine z_iconst F (nI 5) dX2_girth_22 rfl ?_
        refine z_ishr F dX2_girth_23 ?_
        refine z_ieq (pc_hi (by omega) (by omega)) ?_
        refine z_aload_n F dX2_girth_24 rfl ?_
        refine z_iload F dX2_girth_25 rfl ?_
        refine z_ialdN F rfl (by omega) (by omega) rfl dX2_girth_27 ?_
        refine z_ieq (rw1 c_14) ?_
        refine z_bipush F (nI 31) dX2_girth_28 rfl ?_
        refine z_iand F dX2_girth_30 ?_
        refine z_ieq (pc_lo (by omega) (by omega)) ?_
        refine z_callV F (c_clear (nI n) (nI d) f (la (prs n f) i) (lb (prs n f) i) (by omega) (by omega)) 2 rfl (lw_V q837 q526 q527 q116 q528) (by decide +kernel) ⟨Nat.le_of_ble_eq_true rfl, Nat.le_of_ble_eq_true rfl⟩ ⟨by omega, by omega⟩ [0, 3, 4] 6 ⟨rfl, rfl, rfl, ⟨Or.inl rfl, Or.inr rfl, Or.inr rfl, trivial⟩⟩ (fun h => nomatch h) (Nat.le_of_ble_eq_true rfl) ⟨⟨Or.inr trivial, Or.inr rfl, Or.inr trivial, Or.inl rfl, Or.inl rfl, Or.inr trivial, trivial⟩, rfl, rfl, rfl, Nat.le_of_ble_eq_true rfl⟩ rfl zC5 rfl rfl dX2_girth_31 (fun r_31 w_31 hp => ?_) (fun _ _ h => h.elim)
        obtain ⟨rfl, rfl⟩ := hp
        refine z_weq (w' := [zH, zO _ [zr _ _, zi _, zi _, zi _], zAi 0 24 _, zO _ [zi _, zi _, zr _ _], zAi 0 24 _, zAi 0 (prs n f).length _]) rfl ?_
        refine z_seq (S' := []) rfl ?_
        refine z_aload_n F dX2_girth_34 rfl ?_
        refine z_aload_n F dX2_girth_35 rfl ?_
        refine z_aload_n F dX2_girth_36 rfl ?_
        refine z_iload F dX2_girth_37 rfl ?_
        refine z_ialdN F rfl (by omega) (by omega) rfl dX2_girth_39 ?_
        refine z_ieq (rw1 c_14) ?_
        refine z_iconst F (nI 5) dX2_girth_40 rfl ?_
        refine z_ishr F dX2_girth_41 ?_
        refine z_ieq (pc_hi (by omega) (by omega)) ?_
        refine z_aload_n F dX2_girth_42 rfl ?_
        refine z_iload F dX2_girth_43 rfl ?_
        refine z_ialdN F rfl (by omega) (by omega) rfl dX2_girth_45 ?_
        refine z_ieq (rw1 c_14) ?_
        refine z_bipush F (nI 31) dX2_girth_46 rfl ?_
        refine z_iand F dX2_girth_48 ?_
        refine z_ieq (pc_lo (by omega) (by omega)) ?_
        refine z_callV F (c_distance n (la (prs n f) i) (lb (prs n f) i) (nI d) (pt f (la (prs n f) i) (lb (prs n f) i)) _ _ _ _ hn (by omega) (by omega)) 3 rfl (lw_V q838 q796 q797 q110 q798) (by decide +kernel) ⟨Nat.le_of_ble_eq_true rfl, Nat.le_of_ble_eq_true rfl⟩ ⟨by omega, by omega⟩ [0, 1, 2, 3, 4] 6 ⟨rfl, rfl, rfl, ⟨Or.inl rfl, Or.inr rfl, Or.inr rfl, Or.inr rfl, Or.inr rfl, trivial⟩⟩ (fun h => nomatch h) (Nat.le_of_ble_eq_true rfl) ⟨⟨Or.inr trivial, Or.inl rfl, Or.inl rfl, Or.inl rfl, Or.inl rfl, Or.inr trivial, trivial⟩, rfl, rfl, rfl, Nat.le_of_ble_eq_true rfl⟩ rfl zC2 rfl rfl dX2_girth_49 (fun r_49 w_49 hp => ?_) (fun _ _ h => h.elim)
        obtain ⟨rfl, sn2, g2, sm2, D2, rfl⟩ := hp
        refine z_weq (w' := [zH, zO _ [zr _ _, zi _, zi _, zi _], zAi 0 24 _, zO _ [zi _, zi _, zr _ _], zAi 0 24 _, zAi 0 (prs n f).length _]) rfl ?_
        refine z_seq (S' := zi _ :: _) rfl ?_
        refine z_istore F dX2_girth_52 (Nat.le_of_ble_eq_true rfl) ?_
        refine z_leq (L' := [_, _, _, _, _, _]) rfl ?_
        refine z_aload_n F dX2_girth_54 rfl ?_
        refine z_aload_n F dX2_girth_55 rfl ?_
        refine z_iload F dX2_girth_56 rfl ?_
        refine z_ialdN F rfl (by omega) (by omega) rfl dX2_girth_58 ?_
        refine z_ieq (rw1 c_14) ?_
        refine z_iconst F (nI 5) dX2_girth_59 rfl ?_
        refine z_ishr F dX2_girth_60 ?_
        refine z_ieq (pc_hi (by omega) (by omega)) ?_
        refine z_aload_n F dX2_girth_61 rfl ?_
        refine z_iload F dX2_girth_62 rfl ?_
        refine z_ialdN F rfl (by omega) (by omega) rfl dX2_girth_64 ?_
        refine z_ieq (rw1 c_14) ?_
        refine z_bipush F (nI 31) dX2_girth_65 rfl ?_
        refine z_iand F dX2_girth_67 ?_
        refine z_ieq (pc_lo (by omega) (by omega)) ?_
        refine z_callV F (c_setj (nI n) (nI d) (pt f (la (prs n f) i) (lb (prs n f) i)) (la (prs n f) i) (lb (prs n f) i) (by omega) (by omega)) 2 rfl (lw_V q839 q418 q419 q116 q420) (by decide +kernel) ⟨Nat.le_of_ble_eq_true rfl, Nat.le_of_ble_eq_true rfl⟩ ⟨by omega, by omega⟩ [0, 3, 4] 6 ⟨rfl, rfl, rfl, ⟨Or.inl rfl, Or.inr rfl, Or.inr rfl, trivial⟩⟩ (fun h => nomatch h) (Nat.le_of_ble_eq_true rfl) ⟨⟨Or.inr trivial, Or.inr rfl, Or.inr trivial, Or.inl rfl, Or.inl rfl, Or.inr trivial, trivial⟩, rfl, rfl, rfl, Nat.le_of_ble_eq_true rfl⟩ rfl zC5 rfl rfl dX2_girth_68 (fun r_68 w_68 hp => ?_) (fun _ _ h => h.elim)
        obtain ⟨rfl, rfl⟩ := hp
        rw [jn_pt (by omega) (by omega) (by omega) p3 p4]
        refine z_weq (w' := [zH, zO _ [zr _ _, zi _, zi _, zi _], zAi 0 24 _, zO _ [zi _, zi _, zr _ _], zAi 0 24 _, zAi 0 (prs n f).length _]) rfl ?_
        refine z_seq (S' := []) rfl ?_
        refine z_iload F dX2_girth_71 rfl ?_
        refine z_iconst F (-1) dX2_girth_73 rfl ?_
        refine z_icmp_eq F (tgt := 95) dX2_girth_74 (by decide) (fun c_74 => ?_) (fun c_74 => ?_)
        · refine z_iincN F 1 dX2_girth_95 rfl rfl ?_
          refine z_leq (L' := [_, _, _, _, _, _]) rfl ?_
          refine z_goto F (tgt := 10) dX2_girth_98 (by decide) ?_
          refine z_loc [some (zr 1 0), some (zr 3 0), some (zi (dI (grf n f (prs n f) (i + 1)))), some (zr 5 0), some (zi (nI (i + 1))), none] ⟨rfl, rfl, ?_, rfl, rfl, trivial⟩ (ih (i + 1) _ _ _ _ (by omega) (by omega))
          rw [grf, gmn_0 hx c_74]
        · refine z_iload_n F dX2_girth_77 rfl ?_
          refine z_iconst F (-1) dX2_girth_78 rfl ?_
          refine z_icmp_eq F (tgt := 90) dX2_girth_79 (by decide) (fun c_79 => ?_) (fun c_79 => ?_)
          · refine z_iload F dX2_girth_90 rfl ?_
            refine z_iconst F (nI 1) dX2_girth_92 rfl ?_
            refine z_iadd F dX2_girth_93 ?_
            refine z_istore_n F dX2_girth_94 (Nat.le_of_ble_eq_true rfl) ?_
            refine z_leq (L' := [_, _, _, _, _, _]) rfl ?_
            refine z_iincN F 1 dX2_girth_95 rfl rfl ?_
            refine z_leq (L' := [_, _, _, _, _, _]) rfl ?_
            refine z_goto F (tgt := 10) dX2_girth_98 (by decide) ?_
            refine z_loc [some (zr 1 0), some (zr 3 0), some (zi (dI (grf n f (prs n f) (i + 1)))), some (zr 5 0), some (zi (nI (i + 1))), none] ⟨rfl, rfl, ?_, rfl, rfl, trivial⟩ (ih (i + 1) _ _ _ _ (by omega) (by omega))
            rw [grf, gmn_1 hx hy c_74 c_79]
          · refine z_iload F dX2_girth_82 rfl ?_
            refine z_iconst F (nI 1) dX2_girth_84 rfl ?_
            refine z_iadd F dX2_girth_85 ?_
            refine z_iload_n F dX2_girth_86 rfl ?_
            refine z_icmp_ge F (tgt := 95) dX2_girth_87 (by decide) (fun c_87 => ?_) (fun c_87 => ?_)
            · refine z_iincN F 1 dX2_girth_95 rfl rfl ?_
              refine z_leq (L' := [_, _, _, _, _, _]) rfl ?_
              refine z_goto F (tgt := 10) dX2_girth_98 (by decide) ?_
              refine z_loc [some (zr 1 0), some (zr 3 0), some (zi (dI (grf n f (prs n f) (i + 1)))), some (zr 5 0), some (zi (nI (i + 1))), none] ⟨rfl, rfl, ?_, rfl, rfl, trivial⟩ (ih (i + 1) _ _ _ _ (by omega) (by omega))
              rw [grf, gmn_2 hx hy c_74 c_79 c_87]
            · refine z_iload F dX2_girth_90 rfl ?_
              refine z_iconst F (nI 1) dX2_girth_92 rfl ?_
              refine z_iadd F dX2_girth_93 ?_
              refine z_istore_n F dX2_girth_94 (Nat.le_of_ble_eq_true rfl) ?_
              refine z_leq (L' := [_, _, _, _, _, _]) rfl ?_
              refine z_iincN F 1 dX2_girth_95 rfl rfl ?_
              refine z_leq (L' := [_, _, _, _, _, _]) rfl ?_
              refine z_goto F (tgt := 10) dX2_girth_98 (by decide) ?_
              refine z_loc [some (zr 1 0), some (zr 3 0), some (zi (dI (grf n f (prs n f) (i + 1)))), some (zr 5 0), some (zi (nI (i + 1))), none] ⟨rfl, rfl, ?_, rfl, rfl, trivial⟩ (ih (i + 1) _ _ _ _ (by omega) (by omega))
              rw [grf, gmn_3 hx hy c_74 c_79 c_87]
  refine z_iconst F (-1) dX2_girth_0 rfl ?_
  refine z_istore_n F dX2_girth_1 (Nat.le_of_ble_eq_true rfl) ?_
  refine z_leq (L' := [_, _, _, _, _, _]) rfl ?_
  refine z_aload_n F dX2_girth_2 rfl ?_
  refine z_callV F (c_row n (nI d) f h.sy (by omega)) 0 rfl (lw_V q836 q780 q781 q116 q782) (by decide +kernel) ⟨Nat.le_of_ble_eq_true rfl, Nat.le_of_ble_eq_true rfl⟩ ⟨by omega, by omega⟩ [0, 3, 4] 5 ⟨rfl, rfl, rfl, ⟨Or.inl rfl, Or.inr rfl, Or.inr rfl, trivial⟩⟩ (fun h => nomatch h) (Nat.le_of_ble_eq_true rfl) ⟨⟨Or.inr trivial, Or.inr rfl, Or.inr trivial, Or.inl rfl, Or.inl rfl, trivial⟩, rfl, rfl, rfl, Nat.le_of_ble_eq_true rfl⟩ rfl zC5 rfl rfl dX2_girth_3 (fun r_3 w_3 hp => ?_) (fun _ _ h => h.elim)
  obtain ⟨rfl, rfl⟩ := hp
  refine z_weq (w' := [zH, zO _ [zr _ _, zi _, zi _, zi _], zAi 0 24 _, zO _ [zi _, zi _, zr _ _], zAi 0 24 _, zAi 0 (prs n f).length _]) rfl ?_
  refine z_seq (S' := zr _ _ :: _) rfl ?_
  refine z_astore_n F dX2_girth_6 (Nat.le_of_ble_eq_true rfl) ?_
  refine z_leq (L' := [_, _, _, _, _, _]) rfl ?_
  refine z_iconst F (nI 0) dX2_girth_7 rfl ?_
  refine z_istore F dX2_girth_8 (Nat.le_of_ble_eq_true rfl) ?_
  refine z_leq (L' := [_, _, _, _, _, _]) rfl ?_
  exact loop _ 0 _ _ _ _ (Nat.lt_succ_self _) (by omega)
theorem LnE.to {A A' : Nat → Nat → Int32} {l : List (Nat × Nat)} (h : LnE A l) (h1 : A' 21 = A 21) (h2 : A' 22 = A 22) : LnE A' l := fun i hi => ⟨(congrFun h1 i).trans (h i hi).1, (congrFun h2 i).trans (h i hi).2⟩
theorem frm_back {A1 A2 : Nat → Nat → Int32} {g : Nat → Int32} (h : frm [23] (fA A1 6 g) A2) : frm [23] A1 (fA A2 6 (A1 6)) := fun i hi => by
  by_cases e : i = 6
  · subst e; rw [fA_at]
  · rw [fA_ne e, h i hi, fA_ne e]
theorem c_mgirth (F0 : Nat → Int32) (G : Nat → Int64) (A : Nat → Nat → Int32) (B : Nat → Nat → Int64) (n d : Nat) (f : Nat → Int32) (h : nok n d f) (h4 : F0 4 = nI n) (hf : ∀ k, k < 24 → A 6 k = f k) :
    zCtr yX6_girth cX6_girth 4 (some .int) 2 0 0 [zr 1 0] [zH, zG F0 G A B] (fun r w => r = some (zi (dI (grf n f (prs n f) (prs n f).length))) ∧ ∃ F' A', w = [zH, zG F' G A' B] ∧ frm [20] F0 F' ∧ frm [21, 22, 23] A A') zNx := by
  refine z_start (by decide) [some (zr 1 0), none, none, none] rfl (fun _ => Nat.le_of_ble_eq_true rfl) (fun _ => rfl) (fun X F E hno hin => ?_)
  have hn := h.n24
  have h96 := prs_96 h
  have hl32 : ∀ i, i < (prs n f).length → lb (prs n f) i < 32 := fun i hi => by have := prs_at hi; omega
  have hall : ∀ i, i < 32 → bt (allB n) i = true → i < n := fun i _ h => by rw [bt_allB hn] at h; simpa using h
  have loop : ∀ (m i : Nat) (A1 : Nat → Nat → Int32), (prs n f).length - i < m → i ≤ (prs n f).length → frm [21, 22, 23] A A1 → LnE A1 (prs n f) → Z X [some (zr 1 0), some (zi (dI (grf n f (prs n f) i))), some (zi (nI i)), none] [] [zH, zG (upd F0 20 (nI (prs n f).length)) G A1 B] 0 0 8 := by
    intro m
    induction m with
    | zero => intro i A1 hm; omega
    | succ m ih =>
      intro i A1 hm hi hA hE
      have hf1 : ∀ k, k < 24 → A1 6 k = f k := fun k hk => (congrFun (hA.at 6 rfl) k).trans (hf k hk)
      refine z_iload_n F dX6_girth_8 rfl ?_
      refine z_aload_n F dX6_girth_9 rfl ?_
      refine z_mi F rfl 20 rfl (Nat.le_of_ble_eq_true rfl) rfl q1500 dX6_girth_10 ?_
      refine z_ieq ((rfl : upd F0 20 (nI (prs n f).length) 20 = nI (prs n f).length)) ?_
      refine z_icmp_geN F (by omega) (by omega) (tgt := 111) dX6_girth_13 (by decide) (fun c_13 => ?_) (fun c_13 => ?_)
      · have ei : i = (prs n f).length := by omega
        refine z_iload_n F dX6_girth_111 rfl ?_
        exact z_iret F E rfl dX6_girth_112 (by omega) (by omega) (⟨by rw [ei], _, A1, rfl, frm_upd frm.rf (by decide), hA⟩)
      · obtain ⟨p1, p2, p3⟩ := prs_at c_13
        have p4 : bt (f (lb (prs n f) i)) (la (prs n f) i) = true := by rw [← h.sym (by omega) p2]; exact p3
        have hx : ∀ e, dst n (pt f (la (prs n f) i) (lb (prs n f) i)) (allB n) (la (prs n f) i) (lb (prs n f) i) = some e → e < 32 := fun e he => dst_lt he (by omega)
        have hy := grf_lt (n := n) (f := f) hl32 i hi
        obtain ⟨l1, l2⟩ : A1 21 i = nI (la (prs n f) i) ∧ A1 22 i = nI (lb (prs n f) i) := hE i c_13
        have q3 : bt (A1 6 (la (prs n f) i)) (lb (prs n f) i) = true := by rw [hf1 _ (by omega)]; exact p3
        have q4 : bt (A1 6 (lb (prs n f) i)) (la (prs n f) i) = true := by rw [hf1 _ (by omega)]; exact p4
        refine z_aload_n F dX6_girth_16 rfl ?_
        refine z_aload_n F dX6_girth_17 rfl ?_
        refine z_ma F rfl 21 rfl (Nat.le_of_ble_eq_true rfl) rfl q1501 dX6_girth_18 ?_
        refine z_iload_n F dX6_girth_21 rfl ?_
        refine z_ialdGN F rfl rfl (Nat.le_of_ble_eq_true rfl) (by omega) rfl dX6_girth_22 ?_
        refine z_ieq (l1) ?_
        refine z_aload_n F dX6_girth_23 rfl ?_
        refine z_ma F rfl 22 rfl (Nat.le_of_ble_eq_true rfl) rfl q1502 dX6_girth_24 ?_
        refine z_iload_n F dX6_girth_27 rfl ?_
        refine z_ialdGN F rfl rfl (Nat.le_of_ble_eq_true rfl) (by omega) rfl dX6_girth_28 ?_
        refine z_ieq (l2) ?_
        refine z_callV F (c_parts _ _ _ _ (la (prs n f) i) (lb (prs n f) i) (by omega) (by omega)) 2 rfl (lw_V q1763 q1765 qs48 q117 q1766) (by decide +kernel) ⟨Nat.le_of_ble_eq_true rfl, Nat.le_of_ble_eq_true rfl⟩ ⟨by omega, by omega⟩ [0, 1] 2 ⟨rfl, rfl, rfl, ⟨Or.inl rfl, Or.inr rfl, trivial⟩⟩ (fun h => nomatch h) (Nat.le_of_ble_eq_true rfl) ⟨⟨Or.inr trivial, Or.inl rfl, trivial⟩, rfl, rfl, rfl, Nat.le_of_ble_eq_true rfl⟩ rfl zC6 (zat_G0 rfl) rfl dX6_girth_29 (fun r_29 w_29 hp => ?_) (fun _ _ h => h.elim)
        obtain ⟨rfl, rfl⟩ := hp
        refine z_weq (w' := [zH, zG _ _ _ _]) rfl ?_
        refine z_seq (S' := []) rfl ?_
        refine z_aload_n F dX6_girth_32 rfl ?_
        refine z_aload_n F dX6_girth_33 rfl ?_
        refine z_ma F rfl 21 rfl (Nat.le_of_ble_eq_true rfl) rfl q1501 dX6_girth_34 ?_
        refine z_iload_n F dX6_girth_37 rfl ?_
        refine z_ialdGN F rfl rfl (Nat.le_of_ble_eq_true rfl) (by omega) rfl dX6_girth_38 ?_
        refine z_ieq ((congrFun (fA_ne (by decide)) _).trans l1) ?_
        refine z_aload_n F dX6_girth_39 rfl ?_
        refine z_callV F (c_mall (upd F0 20 (nI (prs n f).length)) _ _ _ n hn h4) 0 rfl (lw_V q1880 q1882 qs63 q117 q1883) (by decide +kernel) ⟨Nat.le_of_ble_eq_true rfl, Nat.le_of_ble_eq_true rfl⟩ ⟨by omega, by omega⟩ [0, 1] 2 ⟨rfl, rfl, rfl, ⟨Or.inl rfl, Or.inr rfl, trivial⟩⟩ (fun h => nomatch h) (Nat.le_of_ble_eq_true rfl) ⟨⟨Or.inr trivial, Or.inl rfl, trivial⟩, rfl, rfl, rfl, Nat.le_of_ble_eq_true rfl⟩ rfl zC6 (zat_G0 rfl) rfl dX6_girth_40 (fun r_40 w_40 hp => ?_) (fun _ _ h => h.elim)
        obtain ⟨rfl, rfl⟩ := hp
        refine z_weq (w' := [zH, zG _ _ _ _]) rfl ?_
        refine z_seq (S' := zi _ :: _) rfl ?_
        refine z_callV F (c_spreads (upd F0 20 (nI (prs n f).length)) _ _ _ n (la (prs n f) i) (pt f (la (prs n f) i) (lb (prs n f) i)) _ hn (by omega) hall h4 (fun k hk => by rw [fA_at]; exact pt_cong hf1 (by omega) (by omega) (by omega))) 2 rfl (lw_V q1884 q1886 qs64 q117 q1887) (by decide +kernel) ⟨Nat.le_of_ble_eq_true rfl, Nat.le_of_ble_eq_true rfl⟩ ⟨by omega, by omega⟩ [0, 1] 2 ⟨rfl, rfl, rfl, ⟨Or.inl rfl, Or.inr rfl, trivial⟩⟩ (fun h => nomatch h) (Nat.le_of_ble_eq_true rfl) ⟨⟨Or.inr trivial, Or.inl rfl, trivial⟩, rfl, rfl, rfl, Nat.le_of_ble_eq_true rfl⟩ rfl zC6 (zat_G0 rfl) rfl dX6_girth_43 (fun r_43 w_43 hp => ?_) (fun _ _ h => h.elim)
        obtain ⟨rfl, A2, rfl, a1, a2, a3⟩ := hp
        refine z_weq (w' := [zH, zG _ _ _ _]) rfl ?_
        refine z_seq (S' := []) rfl ?_
        refine z_aload_n F dX6_girth_46 rfl ?_
        refine z_ma F rfl 23 rfl (Nat.le_of_ble_eq_true rfl) rfl q1503 dX6_girth_47 ?_
        refine z_bipush F (nI 24) dX6_girth_50 rfl ?_
        refine z_aload_n F dX6_girth_52 rfl ?_
        refine z_ma F rfl 21 rfl (Nat.le_of_ble_eq_true rfl) rfl q1501 dX6_girth_53 ?_
        refine z_iload_n F dX6_girth_56 rfl ?_
        refine z_ialdGN F rfl rfl (Nat.le_of_ble_eq_true rfl) (by omega) rfl dX6_girth_57 ?_
        refine z_ieq ((congrFun ((a1.at 21 rfl).trans (fA_ne (by decide))) _).trans l1) ?_
        refine z_imulN F dX6_girth_58 ?_
        refine z_aload_n F dX6_girth_59 rfl ?_
        refine z_ma F rfl 22 rfl (Nat.le_of_ble_eq_true rfl) rfl q1502 dX6_girth_60 ?_
        refine z_iload_n F dX6_girth_63 rfl ?_
        refine z_ialdGN F rfl rfl (Nat.le_of_ble_eq_true rfl) (by omega) rfl dX6_girth_64 ?_
        refine z_ieq ((congrFun ((a1.at 22 rfl).trans (fA_ne (by decide))) _).trans l2) ?_
        refine z_iaddN F dX6_girth_65 ?_
        refine z_ialdGN F rfl rfl (Nat.le_of_ble_eq_true rfl) (by omega) rfl dX6_girth_66 ?_
        refine z_ieq (a2 _ (by omega)) ?_
        refine z_istore_n F dX6_girth_67 (Nat.le_of_ble_eq_true rfl) ?_
        refine z_leq (L' := [_, _, _, _]) rfl ?_
        refine z_aload_n F dX6_girth_68 rfl ?_
        refine z_aload_n F dX6_girth_69 rfl ?_
        refine z_ma F rfl 21 rfl (Nat.le_of_ble_eq_true rfl) rfl q1501 dX6_girth_70 ?_
        refine z_iload_n F dX6_girth_73 rfl ?_
        refine z_ialdGN F rfl rfl (Nat.le_of_ble_eq_true rfl) (by omega) rfl dX6_girth_74 ?_
        refine z_ieq ((congrFun ((a1.at 21 rfl).trans (fA_ne (by decide))) _).trans l1) ?_
        refine z_aload_n F dX6_girth_75 rfl ?_
        refine z_ma F rfl 22 rfl (Nat.le_of_ble_eq_true rfl) rfl q1502 dX6_girth_76 ?_
        refine z_iload_n F dX6_girth_79 rfl ?_
        refine z_ialdGN F rfl rfl (Nat.le_of_ble_eq_true rfl) (by omega) rfl dX6_girth_80 ?_
        refine z_ieq ((congrFun ((a1.at 22 rfl).trans (fA_ne (by decide))) _).trans l2) ?_
        refine z_callV F (c_joins _ _ _ _ (la (prs n f) i) (lb (prs n f) i) (by omega) (by omega)) 2 rfl (lw_V q1755 q1757 qs47 q117 q1758) (by decide +kernel) ⟨Nat.le_of_ble_eq_true rfl, Nat.le_of_ble_eq_true rfl⟩ ⟨by omega, by omega⟩ [0, 1] 2 ⟨rfl, rfl, rfl, ⟨Or.inl rfl, Or.inr rfl, trivial⟩⟩ (fun h => nomatch h) (Nat.le_of_ble_eq_true rfl) ⟨⟨Or.inr trivial, Or.inl rfl, trivial⟩, rfl, rfl, rfl, Nat.le_of_ble_eq_true rfl⟩ rfl zC6 (zat_G0 rfl) rfl dX6_girth_81 (fun r_81 w_81 hp => ?_) (fun _ _ h => h.elim)
        obtain ⟨rfl, rfl⟩ := hp
        rw [a1.at 6 rfl, fA_at, jn_pt (by omega) (by omega) (by omega) q3 q4]
        refine z_weq (w' := [zH, zG _ _ _ _]) rfl ?_
        refine z_seq (S' := []) rfl ?_
        refine z_iload_n F dX6_girth_84 rfl ?_
        refine z_iconst F (-1) dX6_girth_85 rfl ?_
        refine z_icmp_eq F (tgt := 105) dX6_girth_86 (by decide) (fun c_86 => ?_) (fun c_86 => ?_)
        · refine z_iincN F 1 dX6_girth_105 rfl rfl ?_
          refine z_leq (L' := [_, _, _, _]) rfl ?_
          refine z_goto F (tgt := 8) dX6_girth_108 (by decide) ?_
          refine z_loc [some (zr 1 0), some (zi (dI (grf n f (prs n f) (i + 1)))), some (zi (nI (i + 1))), none] ⟨rfl, ?_, rfl, trivial⟩ (ih (i + 1) _ (by omega) (by omega) (hA.tr (frm_back a1) (by decide) (by decide)) (hE.to ((frm_back a1).at 21 rfl) ((frm_back a1).at 22 rfl)))
          rw [grf, gmn_0 hx c_86]
        · refine z_iload_n F dX6_girth_89 rfl ?_
          refine z_iconst F (-1) dX6_girth_90 rfl ?_
          refine z_icmp_eq F (tgt := 101) dX6_girth_91 (by decide) (fun c_91 => ?_) (fun c_91 => ?_)
          · refine z_iload_n F dX6_girth_101 rfl ?_
            refine z_iconst F (nI 1) dX6_girth_102 rfl ?_
            refine z_iadd F dX6_girth_103 ?_
            refine z_istore_n F dX6_girth_104 (Nat.le_of_ble_eq_true rfl) ?_
            refine z_leq (L' := [_, _, _, _]) rfl ?_
            refine z_iincN F 1 dX6_girth_105 rfl rfl ?_
            refine z_leq (L' := [_, _, _, _]) rfl ?_
            refine z_goto F (tgt := 8) dX6_girth_108 (by decide) ?_
            refine z_loc [some (zr 1 0), some (zi (dI (grf n f (prs n f) (i + 1)))), some (zi (nI (i + 1))), none] ⟨rfl, ?_, rfl, trivial⟩ (ih (i + 1) _ (by omega) (by omega) (hA.tr (frm_back a1) (by decide) (by decide)) (hE.to ((frm_back a1).at 21 rfl) ((frm_back a1).at 22 rfl)))
            rw [grf, gmn_1 hx hy c_86 c_91]
          · refine z_iload_n F dX6_girth_94 rfl ?_
            refine z_iconst F (nI 1) dX6_girth_95 rfl ?_
            refine z_iadd F dX6_girth_96 ?_
            refine z_iload_n F dX6_girth_97 rfl ?_
            refine z_icmp_ge F (tgt := 105) dX6_girth_98 (by decide) (fun c_98 => ?_) (fun c_98 => ?_)
            · refine z_iincN F 1 dX6_girth_105 rfl rfl ?_
              refine z_leq (L' := [_, _, _, _]) rfl ?_
              refine z_goto F (tgt := 8) dX6_girth_108 (by decide) ?_
              refine z_loc [some (zr 1 0), some (zi (dI (grf n f (prs n f) (i + 1)))), some (zi (nI (i + 1))), none] ⟨rfl, ?_, rfl, trivial⟩ (ih (i + 1) _ (by omega) (by omega) (hA.tr (frm_back a1) (by decide) (by decide)) (hE.to ((frm_back a1).at 21 rfl) ((frm_back a1).at 22 rfl)))
              rw [grf, gmn_2 hx hy c_86 c_91 c_98]
            · refine z_iload_n F dX6_girth_101 rfl ?_
              refine z_iconst F (nI 1) dX6_girth_102 rfl ?_
              refine z_iadd F dX6_girth_103 ?_
              refine z_istore_n F dX6_girth_104 (Nat.le_of_ble_eq_true rfl) ?_
              refine z_leq (L' := [_, _, _, _]) rfl ?_
              refine z_iincN F 1 dX6_girth_105 rfl rfl ?_
              refine z_leq (L' := [_, _, _, _]) rfl ?_
              refine z_goto F (tgt := 8) dX6_girth_108 (by decide) ?_
              refine z_loc [some (zr 1 0), some (zi (dI (grf n f (prs n f) (i + 1)))), some (zi (nI (i + 1))), none] ⟨rfl, ?_, rfl, trivial⟩ (ih (i + 1) _ (by omega) (by omega) (hA.tr (frm_back a1) (by decide) (by decide)) (hE.to ((frm_back a1).at 21 rfl) ((frm_back a1).at 22 rfl)))
              rw [grf, gmn_3 hx hy c_86 c_91 c_98]
  refine z_aload_n F dX6_girth_0 rfl ?_
  refine z_callV F (c_lists _ _ _ _ n f hn h96 h4 (fun k hk => hf k (by omega))) 0 rfl (lw_V q1868 q1870 qs62 q117 q1871) (by decide +kernel) ⟨Nat.le_of_ble_eq_true rfl, Nat.le_of_ble_eq_true rfl⟩ ⟨by omega, by omega⟩ [0, 1] 2 ⟨rfl, rfl, rfl, ⟨Or.inl rfl, Or.inr rfl, trivial⟩⟩ (fun h => nomatch h) (Nat.le_of_ble_eq_true rfl) ⟨⟨Or.inr trivial, Or.inl rfl, trivial⟩, rfl, rfl, rfl, Nat.le_of_ble_eq_true rfl⟩ rfl zC6 (zat_G0 rfl) rfl dX6_girth_1 (fun r_1 w_1 hp => ?_) (fun _ _ h => h.elim)
  obtain ⟨rfl, A1, rfl, a1, a2⟩ := hp
  refine z_weq (w' := [zH, zG _ _ _ _]) rfl ?_
  refine z_seq (S' := []) rfl ?_
  refine z_iconst F (-1) dX6_girth_4 rfl ?_
  refine z_istore_n F dX6_girth_5 (Nat.le_of_ble_eq_true rfl) ?_
  refine z_leq (L' := [_, _, _, _]) rfl ?_
  refine z_iconst F (nI 0) dX6_girth_6 rfl ?_
  refine z_istore_n F dX6_girth_7 (Nat.le_of_ble_eq_true rfl) ?_
  refine z_leq (L' := [_, _, _, _]) rfl ?_
  exact loop _ 0 A1 (Nat.lt_succ_self _) (by omega) (a1.to (by decide)) a2
end C50
