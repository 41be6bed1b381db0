/-! small nets: Small's fits and strike -/
section C9k
theorem jn_c3 {f g : Nat → Int32} {a b k : Nat} (ha : f a = g a) (hb : f b = g b) (hk : f k = g k) : jn f a b k = jn g a b k := by
  unfold jn
  simp only [upd_at]
  by_cases e1 : k = b
  · rw [if_pos e1, if_pos e1]
    by_cases e2 : b = a
    · rw [if_pos e2, if_pos e2, ha]
    · rw [if_neg e2, if_neg e2, hb]
  · rw [if_neg e1, if_neg e1]
    by_cases e2 : k = a
    · rw [if_pos e2, if_pos e2, ha]
    · rw [if_neg e2, if_neg e2, hk]
theorem cfar_cong {n : Nat} {f g : Nat → Int32} (h : ∀ k, k < n → f k = g k) (st : Int32) : cfar n f st = cfar n g st := by
  unfold cfar
  rw [cfa_cong h st 32]
theorem dgk_no {d : Nat} {f : Nat → Int32} {v : Nat} (hv : ¬ pc32 (f v) ≤ d) : ∀ n, v < n → dgk d f n = false
  | 0, h => by omega
  | n + 1, h => by
    rw [dgk]
    by_cases e : v = n
    · subst e; rw [decide_eq_false hv, Bool.and_false]
    · rw [dgk_no hv n (by omega), Bool.false_and]
theorem c_smFits (n d k c : Nat) (told : Bool) (mn kd fw ls : Int32) (Fa Sa Is : Nat → Int32) (sn g sm : Int32) (D : Nat → Int32) (xd : Int32) (f Tu Im : Nat → Int32) (h1 : 1 ≤ n) (hn : n < 7) (hd : d < 9) (hk : k < 2 ^ 31) (hP : prA n Fa Sa) : zCtr yX4_fits cX4_fits 5 (some .boolean) 4 0 0 [zr 1 0, zi (nI c), zi (nI d), zi (nI k)] (wSm told (nI (pcn n n)) mn kd fw ls (nI n) Fa Sa Is sn g sm D (nI n) xd f Tu Im) (fun r w => r = some (zi (bI (fit n d k (nI c)))) ∧ ∃ sn' g' sm' D' f', w = wSm told (nI (pcn n n)) mn kd fw ls (nI n) Fa Sa Is sn' g' sm' D' (nI n) xd f' Tu Im) zNx := by
  refine z_start (by decide) [some (zr 1 0), some (zi (nI c)), some (zi (nI d)), some (zi (nI k)), none] rfl (fun _ => Nat.le_of_ble_eq_true rfl) (fun _ => rfl) (fun X F E hno hin => ?_)
  have h3 := (p_3 n hn).1
  have hall : ∀ i, i < 32 → bt (allB n) i = true → i < n := fun i _ q => al_lt (by omega) i q
  have l3 : ∀ (f : Nat → Int32), (∀ v, v < n → f v = skr n (nI c) (pcn n n) v) → ∀ (m v : Nat), n - v < m → v ≤ n → dgk d (skr n (nI c) (pcn n n)) v = true → Z X [some (zr 1 0), some (zi (nI c)), some (zi (nI d)), some (zi (nI k)), some (zi (nI v))] [] (wSm told (nI (pcn n n)) mn kd fw ls (nI n) Fa Sa Is sn g sm D (nI n) xd f Tu Im) 0 0 81 := by
    intro f hf m
    induction m with
    | zero => intro v hm; omega
    | succ m ih =>
      intro v hm hv hdg
      have p1 := pc32_le (f v)
      have e0 : cfar n f (allB n) = cfar n (skr n (nI c) (pcn n n)) (allB n) := cfar_cong hf _
      have hcf : cfar n f (allB n) ≤ 100 := by
        unfold cfar
        cases e : cfa n f (allB n) 32 with
        | none => exact Nat.le_refl _
        | some x => have := cfa_lt n f (allB n) 32 x e; show x ≤ 100; omega
      refine z_iload F dX4_fits_81 rfl ?_
      refine z_aload_n F dX4_fits_83 rfl ?_
      refine z_get F zC4 (f := 13) rfl (Nat.le_of_ble_eq_true rfl) q283 rfl dX4_fits_84 ?_
      refine z_icmp_geN F (by omega) (by omega) (tgt := 111) dX4_fits_87 (by decide) (fun c_87 => ?_) (fun c_87 => ?_)
      · refine z_aload_n F dX4_fits_111 rfl ?_
        refine z_get F zC4 (f := 3) rfl (Nat.le_of_ble_eq_true rfl) q268 rfl dX4_fits_112 ?_
        refine z_aload_n F dX4_fits_115 rfl ?_
        refine z_get F zC4 (f := 4) rfl (Nat.le_of_ble_eq_true rfl) q269 rfl dX4_fits_116 ?_
        refine z_aload_n F dX4_fits_119 rfl ?_
        refine z_get F zC4 (f := 4) rfl (Nat.le_of_ble_eq_true rfl) q269 rfl dX4_fits_120 ?_
        refine z_callV F (c_all n xd (by omega)) 0 rfl (lw_V q1033 q800 q801 q116 q802) (by decide +kernel) ⟨Nat.le_of_ble_eq_true rfl, Nat.le_of_ble_eq_true rfl⟩ ⟨by omega, by omega⟩ [0, 7, 8] 11 ⟨rfl, rfl, rfl, ⟨Or.inl rfl, Or.inr rfl, Or.inl rfl, trivial⟩⟩ (fun h => nomatch h) (Nat.le_of_ble_eq_true rfl) ⟨⟨Or.inr trivial, Or.inr rfl, Or.inr trivial, Or.inr trivial, Or.inr trivial, Or.inr rfl, Or.inr trivial, Or.inl rfl, Or.inr trivial, Or.inr trivial, Or.inr trivial, trivial⟩, rfl, rfl, rfl, Nat.le_of_ble_eq_true rfl⟩ rfl zC5 rfl rfl dX4_fits_123 (fun r_123 w_123 hp => ?_) (fun _ _ h => h.elim)
        obtain ⟨rfl, rfl⟩ := hp
        refine z_weq (w' := [zH, zO _ [zr _ _, zr _ _, zr _ _, zr _ _, zr _ _, zi _, zi _, zi _, zi _, zi _, zi _, zr _ _, zr _ _, zi _], zAi 0 15 _, zAi 0 15 _, zAi 2 32768 _, zO _ [zr _ _, zi _, zi _, zi _], zAi 0 24 _, zO _ [zi _, zi _, zr _ _], zAi 0 24 _, zAi 0 6 _, zAi 0 15 _]) rfl ?_
        refine z_seq (S' := zi _ :: _) rfl ?_
        refine z_callV F (c_farthest n xd f (allB n) _ _ _ _ (by omega) hall) 2 rfl (lw_V q1034 q824 q825 q110 q826) (by decide +kernel) ⟨Nat.le_of_ble_eq_true rfl, Nat.le_of_ble_eq_true rfl⟩ ⟨by omega, by omega⟩ [0, 5, 6, 7, 8] 11 ⟨rfl, rfl, rfl, ⟨Or.inl rfl, Or.inr rfl, Or.inr rfl, Or.inr rfl, Or.inr rfl, trivial⟩⟩ (fun h => nomatch h) (Nat.le_of_ble_eq_true rfl) ⟨⟨Or.inr trivial, Or.inr rfl, Or.inr trivial, Or.inr trivial, Or.inr trivial, Or.inl rfl, Or.inl rfl, Or.inl rfl, Or.inl rfl, Or.inr trivial, Or.inr trivial, trivial⟩, rfl, rfl, rfl, Nat.le_of_ble_eq_true rfl⟩ rfl zC2 rfl rfl dX4_fits_126 (fun r_126 w_126 hp => ?_) (fun _ _ h => h.elim)
        obtain ⟨rfl, sn1, g1, sm1, D1, rfl⟩ := hp
        refine z_weq (w' := [zH, zO _ [zr _ _, zr _ _, zr _ _, zr _ _, zr _ _, zi _, zi _, zi _, zi _, zi _, zi _, zr _ _, zr _ _, zi _], zAi 0 15 _, zAi 0 15 _, zAi 2 32768 _, zO _ [zr _ _, zi _, zi _, zi _], zAi 0 24 _, zO _ [zi _, zi _, zr _ _], zAi 0 24 _, zAi 0 6 _, zAi 0 15 _]) rfl ?_
        refine z_seq (S' := zi _ :: _) rfl ?_
        refine z_iload_n F dX4_fits_129 rfl ?_
        refine z_bipush F (nI 99) dX4_fits_130 rfl ?_
        refine z_mmin F q1035 dX4_fits_132 (Nat.le_of_ble_eq_true rfl) rfl (Nat.le_of_ble_eq_true rfl) ⟨by omega, by omega⟩ ?_
        refine z_ieq (mminN (by omega) (by omega)) ?_
        refine z_icmp_gtN F (by omega) (by omega) (tgt := 142) dX4_fits_135 (by decide) (fun c_135 => ?_) (fun c_135 => ?_)
        · refine z_iconstB F false dX4_fits_142 rfl ?_
          exact z_zret F E rfl (bI_nar _) dX4_fits_143 (by omega) (by omega) (⟨by
  unfold fit
  rw [show v = n by omega] at hdg
  first
  | (rw [hdg, ← e0, decide_eq_true (show cfar n f (allB n) ≤ min k 99 by omega)]; rfl)
  | (rw [hdg, ← e0, decide_eq_false (show ¬ cfar n f (allB n) ≤ min k 99 by omega)]; rfl), sn1, g1, sm1, D1, f, rfl⟩)
        · refine z_iconstB F true dX4_fits_138 rfl ?_
          refine z_goto F (tgt := 143) dX4_fits_139 (by decide) ?_
          exact z_zret F E rfl (bI_nar _) dX4_fits_143 (by omega) (by omega) (⟨by
  unfold fit
  rw [show v = n by omega] at hdg
  first
  | (rw [hdg, ← e0, decide_eq_true (show cfar n f (allB n) ≤ min k 99 by omega)]; rfl)
  | (rw [hdg, ← e0, decide_eq_false (show ¬ cfar n f (allB n) ≤ min k 99 by omega)]; rfl), sn1, g1, sm1, D1, f, rfl⟩)
      · refine z_aload_n F dX4_fits_90 rfl ?_
        refine z_get F zC4 (f := 4) rfl (Nat.le_of_ble_eq_true rfl) q269 rfl dX4_fits_91 ?_
        refine z_iload F dX4_fits_94 rfl ?_
        refine z_callV F (c_lines (nI n) xd f v (by omega)) 1 rfl (lw_V q1032 q512 q513 q116 q514) (by decide +kernel) ⟨Nat.le_of_ble_eq_true rfl, Nat.le_of_ble_eq_true rfl⟩ ⟨by omega, by omega⟩ [0, 7, 8] 11 ⟨rfl, rfl, rfl, ⟨Or.inl rfl, Or.inr rfl, Or.inr rfl, trivial⟩⟩ (fun h => nomatch h) (Nat.le_of_ble_eq_true rfl) ⟨⟨Or.inr trivial, Or.inr rfl, Or.inr trivial, Or.inr trivial, Or.inr trivial, Or.inr rfl, Or.inr trivial, Or.inl rfl, Or.inl rfl, Or.inr trivial, Or.inr trivial, trivial⟩, rfl, rfl, rfl, Nat.le_of_ble_eq_true rfl⟩ rfl zC5 rfl rfl dX4_fits_96 (fun r_96 w_96 hp => ?_) (fun _ _ h => h.elim)
        obtain ⟨rfl, rfl⟩ := hp
        refine z_weq (w' := [zH, zO _ [zr _ _, zr _ _, zr _ _, zr _ _, zr _ _, zi _, zi _, zi _, zi _, zi _, zi _, zr _ _, zr _ _, zi _], zAi 0 15 _, zAi 0 15 _, zAi 2 32768 _, zO _ [zr _ _, zi _, zi _, zi _], zAi 0 24 _, zO _ [zi _, zi _, zr _ _], zAi 0 24 _, zAi 0 6 _, zAi 0 15 _]) rfl ?_
        refine z_seq (S' := zi _ :: _) rfl ?_
        refine z_iload_n F dX4_fits_99 rfl ?_
        refine z_icmp_leN F (by omega) (by omega) (tgt := 105) dX4_fits_100 (by decide) (fun c_100 => ?_) (fun c_100 => ?_)
        · refine z_iincN F 1 dX4_fits_105 rfl rfl ?_
          refine z_leq (L' := [_, _, _, _, _]) rfl ?_
          refine z_goto F (tgt := 81) dX4_fits_108 (by decide) ?_
          have hf1 := hf v (by omega)
          exact ih (v + 1) (by omega) (by omega) (by rw [dgk, hdg, ← hf1, decide_eq_true (by omega)]; rfl)
        · refine z_iconstB F false dX4_fits_103 rfl ?_
          exact z_zret F E rfl (bI_nar _) dX4_fits_104 (by omega) (by omega) (⟨by
  have hf1 := hf v (by omega)
  have e1 := dgk_no (f := skr n (nI c) (pcn n n)) (d := d) (v := v) (by rw [← hf1]; omega) n (by omega)
  unfold fit; rw [e1]; rfl, sn, g, sm, D, f, rfl⟩)
  have l2 : ∀ (m p : Nat) (f : Nat → Int32), pcn n n - p < m → p ≤ pcn n n → (∀ v, v < n → f v = skr n (nI c) p v) → Z X [some (zr 1 0), some (zi (nI c)), some (zi (nI d)), some (zi (nI k)), some (zi (nI p))] [] (wSm told (nI (pcn n n)) mn kd fw ls (nI n) Fa Sa Is sn g sm D (nI n) xd f Tu Im) 0 0 32 := by
    intro m
    induction m with
    | zero => intro p f hm; omega
    | succ m ih =>
      intro p f hm hp0 hf
      have e1 := fun z => (hP p z).1
      have e2 := fun z => (hP p z).2
      have g0 := fun z => p_2 n hn p (by omega) z
      refine z_iload F dX4_fits_32 rfl ?_
      refine z_aload_n F dX4_fits_34 rfl ?_
      refine z_get F zC4 (f := 6) rfl (Nat.le_of_ble_eq_true rfl) q272 rfl dX4_fits_35 ?_
      refine z_icmp_geN F (by omega) (by omega) (tgt := 78) dX4_fits_38 (by decide) (fun c_38 => ?_) (fun c_38 => ?_)
      · refine z_iconst F (nI 0) dX4_fits_78 rfl ?_
        refine z_istore F dX4_fits_79 (Nat.le_of_ble_eq_true rfl) ?_
        refine z_leq (L' := [_, _, _, _, _]) rfl ?_
        rw [show p = pcn n n by omega] at hf
        exact l3 f hf (n + 1) 0 (by omega) (by omega) rfl
      · have e1 := e1 (by omega)
        have e2 := e2 (by omega)
        obtain ⟨g1, g2, g3⟩ := g0 (by omega)
        refine z_iload_n F dX4_fits_41 rfl ?_
        refine z_iload F dX4_fits_42 rfl ?_
        refine z_ishr F dX4_fits_44 ?_
        refine z_iconst F (nI 1) dX4_fits_45 rfl ?_
        refine z_iandB F (by omega) dX4_fits_46 ?_
        refine z_iconst F (nI 1) dX4_fits_47 rfl ?_
        refine z_icmp_neB F (tgt := 72) dX4_fits_48 (by decide) (fun c_48 => ?_) (fun c_48 => ?_)
        · refine z_iincN F 1 dX4_fits_72 rfl rfl ?_
          refine z_leq (L' := [_, _, _, _, _]) rfl ?_
          refine z_goto F (tgt := 32) dX4_fits_75 (by decide) ?_
          exact ih (p + 1) f (by omega) (by omega) (fun v hv => by rw [skr, if_neg (by rw [c_48]; decide)]; exact hf v hv)
        · refine z_aload_n F dX4_fits_51 rfl ?_
          refine z_get F zC4 (f := 4) rfl (Nat.le_of_ble_eq_true rfl) q269 rfl dX4_fits_52 ?_
          refine z_aload_n F dX4_fits_55 rfl ?_
          refine z_get F zC4 (f := 0) rfl (Nat.le_of_ble_eq_true rfl) q265 rfl dX4_fits_56 ?_
          refine z_iload F dX4_fits_59 rfl ?_
          refine z_ialdN F rfl (Nat.le_of_ble_eq_true rfl) (by omega) rfl dX4_fits_61 ?_
          refine z_ieq (e1) ?_
          refine z_aload_n F dX4_fits_62 rfl ?_
          refine z_get F zC4 (f := 1) rfl (Nat.le_of_ble_eq_true rfl) q266 rfl dX4_fits_63 ?_
          refine z_iload F dX4_fits_66 rfl ?_
          refine z_ialdN F rfl (Nat.le_of_ble_eq_true rfl) (by omega) rfl dX4_fits_68 ?_
          refine z_ieq (e2) ?_
          refine z_callV F (c_setj (nI n) xd f (pf n p) (ps n p) (by omega) (by omega)) 2 rfl (lw_V q1031 q418 q419 q116 q420) (by decide +kernel) ⟨Nat.le_of_ble_eq_true rfl, Nat.le_of_ble_eq_true rfl⟩ ⟨by omega, by omega⟩ [0, 7, 8] 11 ⟨rfl, rfl, rfl, ⟨Or.inl rfl, Or.inr rfl, Or.inr rfl, trivial⟩⟩ (fun h => nomatch h) (Nat.le_of_ble_eq_true rfl) ⟨⟨Or.inr trivial, Or.inr rfl, Or.inr trivial, Or.inr trivial, Or.inr trivial, Or.inr rfl, Or.inr trivial, Or.inl rfl, Or.inl rfl, Or.inr trivial, Or.inr trivial, trivial⟩, rfl, rfl, rfl, Nat.le_of_ble_eq_true rfl⟩ rfl zC5 rfl rfl dX4_fits_69 (fun r_69 w_69 hp => ?_) (fun _ _ h => h.elim)
          obtain ⟨rfl, rfl⟩ := hp
          refine z_weq (w' := [zH, zO _ [zr _ _, zr _ _, zr _ _, zr _ _, zr _ _, zi _, zi _, zi _, zi _, zi _, zi _, zr _ _, zr _ _, zi _], zAi 0 15 _, zAi 0 15 _, zAi 2 32768 _, zO _ [zr _ _, zi _, zi _, zi _], zAi 0 24 _, zO _ [zi _, zi _, zr _ _], zAi 0 24 _, zAi 0 6 _, zAi 0 15 _]) rfl ?_
          refine z_seq (S' := []) rfl ?_
          refine z_iincN F 1 dX4_fits_72 rfl rfl ?_
          refine z_leq (L' := [_, _, _, _, _]) rfl ?_
          refine z_goto F (tgt := 32) dX4_fits_75 (by decide) ?_
          exact ih (p + 1) _ (by omega) (by omega) (fun v hv => by rw [skr, if_pos c_48]; exact jn_c3 (hf _ (by omega)) (hf _ g2) (hf v hv))
  have l1 : ∀ (m v : Nat) (f : Nat → Int32), n - v < m → v ≤ n → (∀ u, u < v → f u = nI 0) → Z X [some (zr 1 0), some (zi (nI c)), some (zi (nI d)), some (zi (nI k)), some (zi (nI v))] [] (wSm told (nI (pcn n n)) mn kd fw ls (nI n) Fa Sa Is sn g sm D (nI n) xd f Tu Im) 0 0 3 := by
    intro m
    induction m with
    | zero => intro v f hm; omega
    | succ m ih =>
      intro v f hm hv hf
      refine z_iload F dX4_fits_3 rfl ?_
      refine z_aload_n F dX4_fits_5 rfl ?_
      refine z_get F zC4 (f := 13) rfl (Nat.le_of_ble_eq_true rfl) q283 rfl dX4_fits_6 ?_
      refine z_icmp_geN F (by omega) (by omega) (tgt := 29) dX4_fits_9 (by decide) (fun c_9 => ?_) (fun c_9 => ?_)
      · refine z_iconst F (nI 0) dX4_fits_29 rfl ?_
        refine z_istore F dX4_fits_30 (Nat.le_of_ble_eq_true rfl) ?_
        refine z_leq (L' := [_, _, _, _, _]) rfl ?_
        exact l2 _ 0 f (Nat.lt_succ_self _) (by omega) (fun u hu => hf u (by omega))
      · refine z_aload_n F dX4_fits_12 rfl ?_
        refine z_get F zC4 (f := 4) rfl (Nat.le_of_ble_eq_true rfl) q269 rfl dX4_fits_13 ?_
        refine z_getN F zC5 (f := 2) rfl (Nat.le_of_ble_eq_true rfl) q250 rfl dX4_fits_16 ?_
        refine z_iload F dX4_fits_19 rfl ?_
        refine z_iconst F (nI 0) dX4_fits_21 rfl ?_
        refine z_iastN F rfl (Nat.le_of_ble_eq_true rfl) (by omega) dX4_fits_22 ?_
        refine z_weq (w' := [_, _, _, _, _, _, _, _, _, _, _]) rfl ?_
        refine z_iincN F 1 dX4_fits_23 rfl rfl ?_
        refine z_leq (L' := [_, _, _, _, _]) rfl ?_
        refine z_goto F (tgt := 3) dX4_fits_26 (by decide) ?_
        exact ih (v + 1) _ (by omega) (by omega) (fun u hu => by
          show (if u = v then _ else f u) = _
          by_cases e : u = v
          · rw [if_pos e]
          · rw [if_neg e]; exact hf u (by omega))
  refine z_iconst F (nI 0) dX4_fits_0 rfl ?_
  refine z_istore F dX4_fits_1 (Nat.le_of_ble_eq_true rfl) ?_
  refine z_leq (L' := [_, _, _, _, _]) rfl ?_
  exact l1 (n + 1) 0 f (by omega) (by omega) (fun u hu => absurd hu (by omega))
/-- the images of all rows that begin so -/
def imS (n c at_ : Nat) (q : Nat → Nat) (v : Nat) : Prop := ∃ r, isP n r ∧ (∀ i, i < at_ → r i = q i) ∧ nI v = img n (nI c) r (pcn n n)
def stk (Is Is' : Nat → Int32) (S : Nat → Prop) : Prop := ∀ v, v < 32768 → (S v → Is' v = bI false) ∧ (¬ S v → Is' v = Is v)
theorem stk_0 (Is : Nat → Int32) : stk Is Is (fun _ => False) := fun v _ => ⟨fun z => z.elim, fun _ => rfl⟩
theorem stk_tr {Is Is' Is2 : Nat → Int32} {S T : Nat → Prop} (h : stk Is Is' S) (h2 : stk Is' Is2 T) : stk Is Is2 (fun v => S v ∨ T v) := fun v hv => by
  obtain ⟨a1, a2⟩ := h v hv
  obtain ⟨b1, b2⟩ := h2 v hv
  refine ⟨fun z => ?_, fun z => ?_⟩
  · by_cases t : T v
    · exact b1 t
    · rw [b2 t]; exact a1 (z.elim id (fun y => absurd y t))
  · rw [b2 (fun y => z (Or.inr y))]; exact a2 (fun y => z (Or.inl y))
theorem stk_cg {Is Is' : Nat → Int32} {S T : Nat → Prop} (h : stk Is Is' S) (e : ∀ v, S v ↔ T v) : stk Is Is' T := fun v hv => ⟨fun z => (h v hv).1 ((e v).mpr z), fun z => (h v hv).2 (fun y => z ((e v).mp y))⟩
theorem c_smStrike (n c : Nat) (told : Bool) (mn kd fw ls : Int32) (Fa Sa : Nat → Int32) (sn g sm : Int32) (D : Nat → Int32) (xn xd : Int32) (f Im : Nat → Int32) (hn : n < 7) (hP : prA n Fa Sa) : ∀ (m at_ : Nat) (us : Int32) (q : Nat → Nat) (Is Tu : Nat → Int32), at_ + m = n → (∀ i, i < at_ → q i < n) → (∀ i j, i < at_ → j < at_ → q i = q j → i = j) → (∀ v, bt us v = true ↔ ∃ i, i < at_ ∧ q i = v) → (∀ i, i < at_ → Tu i = nI (q i)) →
    zCtr yX4_strike cX4_strike 6 none (m + 3) 0 0 [zr 1 0, zi (nI c), zi (nI at_), zi us] (wSm told (nI (pcn n n)) mn kd fw ls (nI n) Fa Sa Is sn g sm D xn xd f Tu Im) (fun r w => r = none ∧ ∃ Is' Tu', w = wSm told (nI (pcn n n)) mn kd fw ls (nI n) Fa Sa Is' sn g sm D xn xd f Tu' Im ∧ stk Is Is' (imS n c at_ q) ∧ ∀ i, i < at_ → Tu' i = Tu i) zNx := by
  have h3 := (p_3 n hn).1
  intro m
  induction m with
  | zero =>
    intro at_ us q Is Tu hat hq hinj hus hTu
    obtain rfl : at_ = n := by omega
    have hqP : isP at_ q := ⟨hq, hinj⟩
    refine z_start (by decide) [some (zr 1 0), some (zi (nI c)), some (zi (nI at_)), some (zi us), none, none] rfl (fun _ => Nat.le_of_ble_eq_true rfl) (fun _ => rfl) (fun X F E hno hin => ?_)
    have lp : ∀ (u p : Nat), pcn at_ at_ - p < u → p ≤ pcn at_ at_ → Z X [some (zr 1 0), some (zi (nI c)), some (zi (nI at_)), some (zi us), some (zi (img at_ (nI c) q p)), some (zi (nI p))] [] (wSm told (nI (pcn at_ at_)) mn kd fw ls (nI at_) Fa Sa Is sn g sm D xn xd f Tu Im) 0 0 14 := by
      intro u
      induction u with
      | zero => intro p hm; omega
      | succ u ih =>
        intro p hm hp0
        have i1 := fun z => ih (p + 1) (by omega) z
        rw [img] at i1
        have e1 := fun z => (hP p z).1
        have e2 := fun z => (hP p z).2
        have g0 := fun z => p_2 at_ hn p (by omega) z
        refine z_iload F dX4_strike_14 rfl ?_
        refine z_aload_n F dX4_strike_16 rfl ?_
        refine z_get F zC4 (f := 6) rfl (Nat.le_of_ble_eq_true rfl) q272 rfl dX4_strike_17 ?_
        refine z_icmp_geN F (by omega) (by omega) (tgt := 74) dX4_strike_20 (by decide) (fun c_20 => ?_) (fun c_20 => ?_)
        · obtain rfl : p = pcn at_ at_ := by omega
          obtain ⟨j, hj, ej⟩ := nI_bits2 (show pcn at_ at_ ≤ 31 by omega) (img_bits (c := nI c) hn hqP _ (Nat.le_refl _))
          have hj2 : j < 32768 := Nat.lt_of_lt_of_le hj (Nat.pow_le_pow_right (n := 2) (by decide) h3)
          refine z_aload_n F dX4_strike_74 rfl ?_
          refine z_get F zC4 (f := 2) rfl (Nat.le_of_ble_eq_true rfl) q267 rfl dX4_strike_75 ?_
          refine z_iload F dX4_strike_78 rfl ?_
          refine z_ieq (ej) ?_
          refine z_iconstB F false dX4_strike_80 rfl ?_
          refine z_zastN F rfl (Nat.le_of_ble_eq_true rfl) (by omega) dX4_strike_81 ?_
          refine z_weq (w' := [_, _, _, _, _, _, _, _, _, _, _]) rfl ?_
          exact z_vret F E rfl dX4_strike_82 (by omega) (by omega) (⟨rfl, _, Tu, rfl, fun v hv => by
  show (_ → (if v = j then _ else Is v) = _) ∧ (_ → (if v = j then _ else Is v) = _)
  refine ⟨fun z => ?_, fun z => ?_⟩
  · obtain ⟨r, r1, r2, r3⟩ := z
    rw [img_cong hn r2 _ (Nat.le_refl _), ej] at r3
    rw [if_pos ((nI_eq (by omega) (by omega)).mp r3)]; rfl
  · rw [if_neg (fun y => z ⟨q, hqP, fun _ _ => rfl, by rw [ej, y]⟩)], fun _ _ => rfl⟩)
        · have e1 := e1 (by omega)
          have e2 := e2 (by omega)
          obtain ⟨g1, g2, g3⟩ := g0 (by omega)
          have i1 := i1 (by omega)
          have t1 := hTu (pf at_ p) (by omega)
          have t2 := hTu (ps at_ p) g2
          have tb1 := hq (pf at_ p) (by omega)
          have tb2 := hq (ps at_ p) g2
          have tne : q (pf at_ p) ≠ q (ps at_ p) := fun z => by have := hinj _ _ (by omega) g2 z; omega
          refine z_iload_n F dX4_strike_23 rfl ?_
          refine z_iload F dX4_strike_24 rfl ?_
          refine z_ishr F dX4_strike_26 ?_
          refine z_iconst F (nI 1) dX4_strike_27 rfl ?_
          refine z_iandB F (by omega) dX4_strike_28 ?_
          refine z_iconst F (nI 1) dX4_strike_29 rfl ?_
          refine z_icmp_neB F (tgt := 68) dX4_strike_30 (by decide) (fun c_30 => ?_) (fun c_30 => ?_)
          · refine z_iincN F 1 dX4_strike_68 rfl rfl ?_
            refine z_leq (L' := [_, _, _, _, _, _]) rfl ?_
            refine z_goto F (tgt := 14) dX4_strike_71 (by decide) ?_
            rw [if_neg (by rw [c_30]; decide)] at i1
            exact i1
          · refine z_iload F dX4_strike_33 rfl ?_
            refine z_iconst F (nI 1) dX4_strike_35 rfl ?_
            refine z_aload_n F dX4_strike_36 rfl ?_
            refine z_aload_n F dX4_strike_37 rfl ?_
            refine z_get F zC4 (f := 11) rfl (Nat.le_of_ble_eq_true rfl) q281 rfl dX4_strike_38 ?_
            refine z_aload_n F dX4_strike_41 rfl ?_
            refine z_get F zC4 (f := 0) rfl (Nat.le_of_ble_eq_true rfl) q265 rfl dX4_strike_42 ?_
            refine z_iload F dX4_strike_45 rfl ?_
            refine z_ialdN F rfl (Nat.le_of_ble_eq_true rfl) (by omega) rfl dX4_strike_47 ?_
            refine z_ieq (e1) ?_
            refine z_ialdN F rfl (Nat.le_of_ble_eq_true rfl) (by omega) rfl dX4_strike_48 ?_
            refine z_ieq (t1) ?_
            refine z_aload_n F dX4_strike_49 rfl ?_
            refine z_get F zC4 (f := 11) rfl (Nat.le_of_ble_eq_true rfl) q281 rfl dX4_strike_50 ?_
            refine z_aload_n F dX4_strike_53 rfl ?_
            refine z_get F zC4 (f := 1) rfl (Nat.le_of_ble_eq_true rfl) q266 rfl dX4_strike_54 ?_
            refine z_iload F dX4_strike_57 rfl ?_
            refine z_ialdN F rfl (Nat.le_of_ble_eq_true rfl) (by omega) rfl dX4_strike_59 ?_
            refine z_ieq (e2) ?_
            refine z_ialdN F rfl (Nat.le_of_ble_eq_true rfl) (by omega) rfl dX4_strike_60 ?_
            refine z_ieq (t2) ?_
            refine z_callV F (c_smPair at_ (q (pf at_ p)) (q (ps at_ p)) told (nI (pcn at_ at_)) mn kd fw ls (nI at_) Fa Sa hn tb1 tb2 tne hP) 2 rfl (lw_V q1041 q1043 qs22 q115 q1044) (by decide +kernel) ⟨by omega, Nat.le_of_ble_eq_true rfl⟩ ⟨by omega, by omega⟩ [0, 1, 2, 3, 4, 5, 6, 7, 8, 9, 10] 11 ⟨rfl, rfl, rfl, ⟨Or.inl rfl, Or.inr rfl, Or.inr rfl, Or.inr rfl, Or.inl rfl, Or.inl rfl, Or.inl rfl, Or.inl rfl, Or.inl rfl, Or.inl rfl, Or.inl rfl, trivial⟩⟩ (fun h => nomatch h) (Nat.le_of_ble_eq_true rfl) ⟨⟨Or.inr trivial, Or.inl rfl, Or.inl rfl, Or.inl rfl, Or.inr trivial, Or.inr rfl, Or.inr trivial, Or.inr rfl, Or.inr trivial, Or.inr trivial, Or.inr trivial, trivial⟩, rfl, rfl, rfl, Nat.le_of_ble_eq_true rfl⟩ rfl zC4 rfl rfl dX4_strike_61 (fun r_61 w_61 hp => ?_) (fun _ _ h => h.elim)
            obtain ⟨rfl, rfl⟩ := hp
            refine z_weq (w' := [zH, zO _ [zr _ _, zr _ _, zr _ _, zr _ _, zr _ _, zi _, zi _, zi _, zi _, zi _, zi _, zr _ _, zr _ _, zi _], zAi 0 15 _, zAi 0 15 _, zAi 2 32768 _, zO _ [zr _ _, zi _, zi _, zi _], zAi 0 24 _, zO _ [zi _, zi _, zr _ _], zAi 0 24 _, zAi 0 6 _, zAi 0 15 _]) rfl ?_
            refine z_seq (S' := zi _ :: _) rfl ?_
            refine z_ishl F dX4_strike_64 ?_
            refine z_ior F dX4_strike_65 ?_
            refine z_istore F dX4_strike_66 (Nat.le_of_ble_eq_true rfl) ?_
            refine z_leq (L' := [_, _, _, _, _, _]) rfl ?_
            refine z_iincN F 1 dX4_strike_68 rfl rfl ?_
            refine z_leq (L' := [_, _, _, _, _, _]) rfl ?_
            refine z_goto F (tgt := 14) dX4_strike_71 (by decide) ?_
            rw [if_pos c_30] at i1
            exact i1
    refine z_iload_n F dX4_strike_0 rfl ?_
    refine z_aload_n F dX4_strike_1 rfl ?_
    refine z_get F zC4 (f := 13) rfl (Nat.le_of_ble_eq_true rfl) q283 rfl dX4_strike_2 ?_
    refine z_icmp_neN F (by omega) (by omega) (tgt := 83) dX4_strike_5 (by decide) (fun c_5 => ?_) (fun c_5 => ?_)
    · exact absurd c_5 (by omega)
    · refine z_iconst F (nI 0) dX4_strike_8 rfl ?_
      refine z_istore F dX4_strike_9 (Nat.le_of_ble_eq_true rfl) ?_
      refine z_leq (L' := [_, _, _, _, _, _]) rfl ?_
      refine z_iconst F (nI 0) dX4_strike_11 rfl ?_
      refine z_istore F dX4_strike_12 (Nat.le_of_ble_eq_true rfl) ?_
      refine z_leq (L' := [_, _, _, _, _, _]) rfl ?_
      exact lp _ 0 (Nat.lt_succ_self _) (Nat.zero_le _)

  | succ m ih =>
    intro at_ us q Is Tu hat hq hinj hus hTu
    refine z_start (by decide) [some (zr 1 0), some (zi (nI c)), some (zi (nI at_)), some (zi us), none, none] rfl (fun _ => Nat.le_of_ble_eq_true rfl) (fun _ => rfl) (fun X F E hno hin => ?_)
    have lp : ∀ (u k : Nat) (Is1 Tu1 : Nat → Int32), n - k < u → k ≤ n → stk Is Is1 (fun v => ∃ r, isP n r ∧ (∀ i, i < at_ → r i = q i) ∧ r at_ < k ∧ nI v = img n (nI c) r (pcn n n)) → (∀ i, i < at_ → Tu1 i = Tu i) → Z X [some (zr 1 0), some (zi (nI c)), some (zi (nI at_)), some (zi us), some (zi (nI k)), none] [] (wSm told (nI (pcn n n)) mn kd fw ls (nI n) Fa Sa Is1 sn g sm D xn xd f Tu1 Im) 0 0 86 := by
      intro u
      induction u with
      | zero => intro k Is1 Tu1 hm; omega
      | succ u ih2 =>
        intro k Is1 Tu1 hm hk hS hT
        have hq2 : ∀ i, i < at_ + 1 → k < n → (if i = at_ then k else q i) < n := fun i hi hkn => by
          split
          · exact hkn
          · exact hq i (by omega)
        refine z_iload F dX4_strike_86 rfl ?_
        refine z_aload_n F dX4_strike_88 rfl ?_
        refine z_get F zC4 (f := 13) rfl (Nat.le_of_ble_eq_true rfl) q283 rfl dX4_strike_89 ?_
        refine z_icmp_geN F (by omega) (by omega) (tgt := 136) dX4_strike_92 (by decide) (fun c_92 => ?_) (fun c_92 => ?_)
        · exact z_vret F E rfl dX4_strike_136 (by omega) (by omega) (⟨rfl, Is1, Tu1, rfl, stk_cg hS (fun v => ⟨fun ⟨r, r1, r2, _, r4⟩ => ⟨r, r1, r2, r4⟩, fun ⟨r, r1, r2, r4⟩ => ⟨r, r1, r2, (by have := r1.1 at_ (by omega); omega), r4⟩⟩), hT⟩)
        · refine z_iload_n F dX4_strike_95 rfl ?_
          refine z_iload F dX4_strike_96 rfl ?_
          refine z_ishr F dX4_strike_98 ?_
          refine z_iconst F (nI 1) dX4_strike_99 rfl ?_
          refine z_iandB F (by omega) dX4_strike_100 ?_
          refine z_iconst F (nI 1) dX4_strike_101 rfl ?_
          refine z_icmp_neB F (tgt := 108) dX4_strike_102 (by decide) (fun c_102 => ?_) (fun c_102 => ?_)
          · have hnk : ∀ i, i < at_ → q i ≠ k := fun i hi z => by
              rw [(hus k).mpr ⟨i, hi, z⟩] at c_102; cases c_102
            have hk2 : k < n := by omega
            have hin2 : ∀ i j, i < at_ + 1 → j < at_ + 1 → (if i = at_ then k else q i) = (if j = at_ then k else q j) → i = j := fun i j hi hj e => by
              by_cases a1 : i = at_
              · by_cases a2 : j = at_
                · omega
                · rw [if_pos a1, if_neg a2] at e; exact absurd e.symm (hnk j (by omega))
              · by_cases a2 : j = at_
                · rw [if_neg a1, if_pos a2] at e; exact absurd e (hnk i (by omega))
                · rw [if_neg a1, if_neg a2] at e; exact hinj i j (by omega) (by omega) e
            have hus2 : ∀ v, bt (us ||| b1 k) v = true ↔ ∃ i, i < at_ + 1 ∧ (if i = at_ then k else q i) = v := fun v => by
              rw [bt_or1 _ (by omega), Bool.or_eq_true, decide_eq_true_eq, hus v]
              constructor
              · rintro (⟨i, i1, i2⟩ | z)
                · exact ⟨i, by omega, by rw [if_neg (by omega)]; exact i2⟩
                · exact ⟨at_, by omega, by rw [if_pos rfl]; exact z.symm⟩
              · rintro ⟨i, i1, i2⟩
                by_cases e : i = at_
                · rw [if_pos e] at i2; exact Or.inr i2.symm
                · rw [if_neg e] at i2; exact Or.inl ⟨i, by omega, i2⟩
            have hT2 : ∀ i, i < at_ + 1 → upd Tu1 at_ (nI k) i = nI (if i = at_ then k else q i) := fun i hi => by
              show (if i = at_ then _ else Tu1 i) = nI (if i = at_ then k else q i)
              by_cases e : i = at_
              · rw [if_pos e, if_pos e]
              · rw [if_neg e, if_neg e, hT i (by omega)]; exact hTu i (by omega)
            refine z_aload_n F dX4_strike_108 rfl ?_
            refine z_get F zC4 (f := 11) rfl (Nat.le_of_ble_eq_true rfl) q281 rfl dX4_strike_109 ?_
            refine z_iload_n F dX4_strike_112 rfl ?_
            refine z_iload F dX4_strike_113 rfl ?_
            refine z_iastN F rfl (Nat.le_of_ble_eq_true rfl) (by omega) dX4_strike_115 ?_
            refine z_weq (w' := [_, _, _, _, _, _, _, _, _, _, _]) rfl ?_
            refine z_aload_n F dX4_strike_116 rfl ?_
            refine z_iload_n F dX4_strike_117 rfl ?_
            refine z_iload_n F dX4_strike_118 rfl ?_
            refine z_iconst F (nI 1) dX4_strike_119 rfl ?_
            refine z_iaddN F dX4_strike_120 ?_
            refine z_iload_n F dX4_strike_121 rfl ?_
            refine z_iconst F (nI 1) dX4_strike_122 rfl ?_
            refine z_iload F dX4_strike_123 rfl ?_
            refine z_ishlB F dX4_strike_125 ?_
            refine z_ior F dX4_strike_126 ?_
            refine z_callV F (ih (at_ + 1) (HOr.hOr us (b1 k)) (fun i => if i = at_ then k else q i) Is1 (upd Tu1 at_ (nI k)) (by omega) (fun i hi => hq2 i hi hk2) hin2 hus2 hT2) 3 rfl (lw_V q1037 q1039 qs21 q115 q1040) (by decide +kernel) ⟨by omega, Nat.le_of_ble_eq_true rfl⟩ ⟨by omega, by omega⟩ [0, 1, 2, 3, 4, 5, 6, 7, 8, 9, 10] 11 ⟨rfl, rfl, rfl, ⟨Or.inl rfl, Or.inr rfl, Or.inr rfl, Or.inr rfl, Or.inr rfl, Or.inr rfl, Or.inr rfl, Or.inr rfl, Or.inr rfl, Or.inr rfl, Or.inr rfl, trivial⟩⟩ (fun h => nomatch h) (Nat.le_of_ble_eq_true rfl) ⟨⟨Or.inr trivial, Or.inl rfl, Or.inl rfl, Or.inl rfl, Or.inl rfl, Or.inl rfl, Or.inl rfl, Or.inl rfl, Or.inl rfl, Or.inl rfl, Or.inl rfl, trivial⟩, rfl, rfl, rfl, Nat.le_of_ble_eq_true rfl⟩ rfl zC4 rfl rfl dX4_strike_127 (fun r_127 w_127 hp => ?_) (fun _ _ h => h.elim)
            obtain ⟨rfl, Is2, Tu2, rfl, s1, s2⟩ := hp
            refine z_weq (w' := [zH, zO _ [zr _ _, zr _ _, zr _ _, zr _ _, zr _ _, zi _, zi _, zi _, zi _, zi _, zi _, zr _ _, zr _ _, zi _], zAi 0 15 _, zAi 0 15 _, zAi 2 32768 _, zO _ [zr _ _, zi _, zi _, zi _], zAi 0 24 _, zO _ [zi _, zi _, zr _ _], zAi 0 24 _, zAi 0 6 _, zAi 0 15 _]) rfl ?_
            refine z_seq (S' := []) rfl ?_
            refine z_iincN F 1 dX4_strike_130 rfl rfl ?_
            refine z_leq (L' := [_, _, _, _, _, _]) rfl ?_
            refine z_goto F (tgt := 86) dX4_strike_133 (by decide) ?_
            refine ih2 (k + 1) Is2 Tu2 (by omega) (by omega) (stk_cg (stk_tr hS s1) (fun v => ⟨fun z => ?_, fun ⟨r, r1, r2, r3, r4⟩ => ?_⟩)) (fun i hi => by
              rw [s2 i (by omega)]
              show (if i = at_ then _ else Tu1 i) = _
              rw [if_neg (by omega)]; exact hT i hi)
            · rcases z with ⟨r, r1, r2, r3, r4⟩ | ⟨r, r1, r2, r4⟩
              · exact ⟨r, r1, r2, by omega, r4⟩
              · refine ⟨r, r1, fun i hi => ?_, ?_, r4⟩
                · have e : r i = (if i = at_ then k else q i) := r2 i (by omega)
                  rw [if_neg (by omega)] at e; exact e
                · have e : r at_ = (if at_ = at_ then k else q at_) := r2 at_ (by omega)
                  rw [if_pos rfl] at e; omega
            · by_cases e : r at_ = k
              · refine Or.inr ⟨r, r1, fun i hi => ?_, r4⟩
                show r i = (if i = at_ then k else q i)
                by_cases a1 : i = at_
                · rw [if_pos a1, a1]; exact e
                · rw [if_neg a1]; exact r2 i (by omega)
              · exact Or.inl ⟨r, r1, r2, by omega, r4⟩
          · refine z_goto F (tgt := 130) dX4_strike_105 (by decide) ?_
            refine z_iincN F 1 dX4_strike_130 rfl rfl ?_
            refine z_leq (L' := [_, _, _, _, _, _]) rfl ?_
            refine z_goto F (tgt := 86) dX4_strike_133 (by decide) ?_
            refine ih2 (k + 1) Is1 Tu1 (by omega) (by omega) (stk_cg hS (fun v => ⟨fun ⟨r, r1, r2, r3, r4⟩ => ⟨r, r1, r2, (by omega), r4⟩, fun ⟨r, r1, r2, r3, r4⟩ => ⟨r, r1, r2, ?_, r4⟩⟩)) hT
            obtain ⟨i, i1, i2⟩ := (hus k).mp c_102
            have : r at_ ≠ k := fun z => by
              have := r1.2 at_ i (by omega) (by omega) (by rw [z, r2 i i1, i2])
              omega
            omega
    refine z_iload_n F dX4_strike_0 rfl ?_
    refine z_aload_n F dX4_strike_1 rfl ?_
    refine z_get F zC4 (f := 13) rfl (Nat.le_of_ble_eq_true rfl) q283 rfl dX4_strike_2 ?_
    refine z_icmp_neN F (by omega) (by omega) (tgt := 83) dX4_strike_5 (by decide) (fun c_5 => ?_) (fun c_5 => ?_)
    · refine z_iconst F (nI 0) dX4_strike_83 rfl ?_
      refine z_istore F dX4_strike_84 (Nat.le_of_ble_eq_true rfl) ?_
      refine z_leq (L' := [_, _, _, _, _, _]) rfl ?_
      exact lp (n + 1) 0 Is Tu (by omega) (by omega) (stk_cg (stk_0 Is) (fun v => ⟨fun z => z.elim, fun ⟨r, r1, r2, r3, r4⟩ => (by omega)⟩)) (fun _ _ => rfl)
    · exact absurd c_5 (by omega)
end C9k
