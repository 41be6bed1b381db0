/-! tell: the reference's counts of who can be told at once -/
section C9yl
theorem cs_lt {sel : Nat → Bool} {k n : Nat} (hk : k < n) (h : sel k = true) : fb_ct sel k < fb_ct sel n := by
  have e := fb_ct_mono sel (show k + 1 ≤ n from hk)
  rw [fb_ct_succ, h] at e
  simp at e
  omega
theorem mA_map {g g' : Nat → Nat → Bool} {S : Nat → Prop} {φ : Nat → Nat} (h : mA g S) (h1 : ∀ z, S z → φ z < 24) (hi : ∀ x y, S x → S y → φ x = φ y → x = y) (hg : ∀ z t, S z → t < 24 → g z t = true → g' (φ z) t = true) : mA g' (fun y => ∃ z, S z ∧ φ z = y) := by
  obtain ⟨O, h⟩ := h
  refine ⟨fun t => (O t).map φ, fun t y e => ?_, fun t u y e1 e2 => ?_, fun y hy => ?_⟩
  · obtain ⟨z, hz, rfl⟩ := Option.map_eq_some_iff.mp e
    obtain ⟨a, b, c⟩ := h.1 t z hz
    exact ⟨a, hg z t c a b, z, c, rfl⟩
  · obtain ⟨z, hz, q1⟩ := Option.map_eq_some_iff.mp e1
    obtain ⟨z2, hz2, q2⟩ := Option.map_eq_some_iff.mp e2
    have : z = z2 := hi z z2 (h.1 t z hz).2.2 (h.1 u z2 hz2).2.2 (q1.trans q2.symm)
    subst this
    exact h.2.1 t u z hz hz2
  · obtain ⟨z, hz, rfl⟩ := hy
    obtain ⟨-, t, ht⟩ := h.2.2 z hz
    exact ⟨h1 z hz, t, by show (O t).map φ = _; rw [ht]; rfl⟩
theorem ctP_img {S T : Nat → Prop} {g : Nat → Nat} (h : ∀ i, i < 24 → S i → ∃ j, j < 24 ∧ T j ∧ g j = i) : ctP S ≤ ctP T := by
  refine fb_ct_img (g := g) 24 _ fun i hi hp => ?_
  obtain ⟨j, j1, j2, j3⟩ := h i hi (dcp.mp hp)
  exact ⟨j, j1, dcp.mpr j2, j3⟩
theorem ctP_below {m : Nat} (hm : m ≤ 24) : ctP (fun i => i < m) = m := by
  rw [ctP_k hm (fun z h => h)]
  exact fb_ct_all.mpr fun k hk => dcp.mpr hk
def gR (R : Nat → Int32) : Nat → Nat → Bool := fun i t => bt (R i) t && decide (t < 24)
theorem gR_lt {R : Nat → Int32} {z t : Nat} (h : gR R z t = true) : t < 24 := by
  unfold gR at h
  rw [Bool.and_eq_true, decide_eq_true_eq] at h
  exact h.2
theorem gR_eq {R : Nat → Int32} {z t : Nat} (h : t < 24) : gR R z t = bt (R z) t := by
  unfold gR; rw [decide_eq_true h, Bool.and_true]
/-- rows set close together -/
abbrev packed (n : Nat) (sel : Nat → Bool) (f R : Nat → Int32) (A : Int32) : Prop := ∀ k, k < n → sel k = true → R (fb_ct sel k) = f k &&& A
theorem pk_g {n : Nat} {sel : Nat → Bool} {f R : Nat → Int32} {A : Int32} (h : packed n sel f R A) {k t : Nat} (hk : k < n) (hs : sel k = true) : bt (R (fb_ct sel k)) t = tg f A k t := by
  rw [h k hk hs, b_and]; rfl
theorem pk_psi {n : Nat} (sel : Nat → Bool) : ∃ ψ : Nat → Nat, ∀ i, i < fb_ct sel n → ψ i < n ∧ sel (ψ i) = true ∧ fb_ct sel (ψ i) = i := by
  have key : ∀ i, ∃ k, i < fb_ct sel n → k < n ∧ sel k = true ∧ fb_ct sel k = i := fun i => by
    by_cases q : i < fb_ct sel n
    · obtain ⟨k, hk⟩ := fb_ct_kth q
      exact ⟨k, fun _ => hk⟩
    · exact ⟨0, fun z => absurd z q⟩
  obtain ⟨ψ, hψ⟩ := Classical.axiomOfChoice key
  exact ⟨ψ, hψ⟩
theorem pk_up {n : Nat} {sel : Nat → Bool} {f R : Nat → Int32} {A : Int32} (hn : n ≤ 24) (h : packed n sel f R A) {S : Nat → Prop} (hS : mA (gR R) S) (hlt : ∀ z, S z → z < fb_ct sel n) : ∃ T : Nat → Prop, mA (tg f A) T ∧ (∀ z, T z → z < n ∧ sel z = true) ∧ ctP S ≤ ctP T ∧ ∀ k, k < n → sel k = true → S (fb_ct sel k) → T k := by
  obtain ⟨ψ, hψ⟩ := pk_psi (n := n) sel
  refine ⟨_, mA_map (φ := ψ) hS (fun z hz => by have := (hψ z (hlt z hz)).1; omega) (fun x y hx hy e => ?_) (fun z t hz ht hg => ?_), fun z hz => ?_, ctP_img (g := fb_ct sel) fun i hi hSi => ?_, fun k hk hs hSk => ?_⟩
  · rw [← (hψ x (hlt x hx)).2.2, ← (hψ y (hlt y hy)).2.2, e]
  · obtain ⟨a, b, c⟩ := hψ z (hlt z hz)
    rw [← pk_g h a b, c, ← gR_eq ht]; exact hg
  · obtain ⟨i, hi, rfl⟩ := hz
    exact ⟨(hψ i (hlt i hi)).1, (hψ i (hlt i hi)).2.1⟩
  · obtain ⟨a, b, c⟩ := hψ i (hlt i hSi)
    exact ⟨ψ i, by omega, ⟨i, hSi, rfl⟩, c⟩
  · obtain ⟨a, b, c⟩ := hψ _ (hlt _ hSk)
    exact ⟨_, hSk, fb_ct_kth_one b hs c⟩
theorem pk_dn {n : Nat} {sel : Nat → Bool} {f R : Nat → Int32} {A : Int32} (hn : n ≤ 24) (h : packed n sel f R A) {T : Nat → Prop} (hT : mA (tg f A) T) (hlt : ∀ z, T z → z < n ∧ sel z = true) : ∃ S : Nat → Prop, mA (gR R) S ∧ (∀ z, S z → z < fb_ct sel n) ∧ ctP T ≤ ctP S ∧ ∀ k, T k → S (fb_ct sel k) := by
  obtain ⟨ψ, hψ⟩ := pk_psi (n := n) sel
  have hcl := fun {k} (q : T k) => cs_lt (hlt k q).1 (hlt k q).2
  have hmn := fb_ct_le sel n
  refine ⟨_, mA_map (φ := fb_ct sel) hT (fun z hz => by have := hcl hz; omega) (fun x y hx hy e => fb_ct_kth_one (hlt x hx).2 (hlt y hy).2 e) (fun z t hz ht hg => ?_), fun z hz => ?_, ctP_img (g := ψ) fun i hi hTi => ?_, fun k hk => ⟨k, hk, rfl⟩⟩
  · rw [gR_eq ht, pk_g h (hlt z hz).1 (hlt z hz).2]; exact hg
  · obtain ⟨k, hk, rfl⟩ := hz
    exact hcl hk
  · refine ⟨fb_ct sel i, by have := hcl hTi; omega, ⟨i, hTi, rfl⟩, ?_⟩
    obtain ⟨a, b, c⟩ := hψ _ (hcl hTi)
    exact fb_ct_kth_one b (hlt i hTi).2 c
theorem pk_most {n : Nat} {f R : Nat → Int32} {A : Int32} (hn : n ≤ 24) (hA : ∀ k, bt A k = true → k < n) (h : packed n (fun k => !bt A k) f R A) : gN (gR R) (fb_ct (fun k => !bt A k) n) = mostT n f A := by
  have hmn := fb_ct_le (fun k => !bt A k) n
  refine Nat.le_antisymm ?_ ?_
  · obtain ⟨T, t1, t2, t3, -⟩ := pk_up hn h (gS_mA (g := gR R) (fb_ct (fun k => !bt A k) n)) (fun z hz => gS_lt hz)
    rw [← gN_ctP (by omega)] at t3
    exact Nat.le_trans t3 (mostT_ge hn hA t1 (fun z hz => (t2 z hz).1) (fun z hz => by have := (t2 z hz).2; cases hb : bt A z with
      | false => rfl
      | true => rw [hb] at this; cases this))
  · have hG : ∀ z, gS (tgr f A) n z → bt A z = false := fun z hz => by
      obtain ⟨O', hO'⟩ := gS_mA (g := tgr f A) n
      obtain ⟨-, t, ht⟩ := hO'.2.2 z hz
      have := (hO'.1 t z ht).2.1
      unfold tgr at this
      cases hb : bt A z with
      | false => rfl
      | true => rw [hb] at this; cases this
    obtain ⟨S, s1, s2, s3, -⟩ := pk_dn hn h ((tgr_iff hG).mp (gS_mA (g := tgr f A) n)) (fun z hz => ⟨gS_lt hz, by rw [hG z hz]; rfl⟩)
    rw [← gN_ctP hn] at s3
    exact Nat.le_trans s3 (gN_max (fun z t q => gR_lt q) (by omega) s1 s2)
theorem pk_all {n : Nat} {sel : Nat → Bool} {f R : Nat → Int32} {A : Int32} (hn : n ≤ 24) (h : packed n sel f R A) : gN (gR R) (fb_ct sel n) = fb_ct sel n ↔ mA (tg f A) (fun k => k < n ∧ sel k = true) := by
  have hmn := fb_ct_le sel n
  constructor
  · intro e
    rw [gN_ctP (by omega), ctP_k (by omega) (fun z hz => gS_lt hz), fb_ct_all] at e
    obtain ⟨T, t1, t2, -, t4⟩ := pk_up hn h (gS_mA (g := gR R) (fb_ct sel n)) (fun z hz => gS_lt hz)
    exact mA_sub t1 fun z hz => t4 z hz.1 hz.2 (dcp.mp (e _ (cs_lt hz.1 hz.2)))
  · intro hT
    obtain ⟨S, s1, s2, -, s4⟩ := pk_dn hn h hT (fun z hz => hz)
    refine Nat.le_antisymm (gN_k _) ?_
    have h1 : mA (gR R) (fun i => i < fb_ct sel n) := mA_sub s1 fun i hi => by
      obtain ⟨k, a, b, c⟩ := fb_ct_kth hi
      rw [← c]; exact s4 k ⟨a, b⟩
    have h2 := gN_max (fun z t q => gR_lt q) (show fb_ct sel n ≤ 24 by omega) h1 (fun z hz => hz)
    rw [ctP_below (by omega)] at h2
    exact h2
theorem c_mtoldAt (F0 : Nat → Int32) (G : Nat → Int64) (A : Nat → Nat → Int32) (B : Nat → Nat → Int64) (n s : Nat) (f : Nat → Int32) (hn : n ≤ 24) (hs : s < 2 ^ n) (h4 : F0 4 = nI n) (hf : ∀ k, k < n → A 6 k = f k) :
    zCtr yX6_toldAtMost cX6_toldAtMost 4 (some .int) 3 0 0 [zr 1 0, zi (nI s)] [zH, zG F0 G A B] (fun r w => r = some (zi (nI (mostT n f (nI s)))) ∧ ∃ A', w = [zH, zG F0 G A' B] ∧ frm [68, 69, 70, 71] A A') zNx := by
  refine z_start (by decide) [some (zr 1 0), some (zi (nI s)), none, none] rfl (fun _ => Nat.le_of_ble_eq_true rfl) (fun _ => rfl) (fun X F E hno hin => ?_)
  have hA : ∀ k, bt (nI s) k = true → k < n := fun k hk => in_lt hs hk
  have two : ∀ (m k : Nat) (A1 : Nat → Nat → Int32), n - k < m → k ≤ n → frm [68] A A1 → (∀ k', k' < k → bt (nI s) k' = false → A1 68 (fb_ct (fun k => !bt (nI s) k) k') = f k' &&& nI s) → Z X [some (zr 1 0), some (zi (nI s)), some (zi (nI (fb_ct (fun k => !bt (nI s) k) k))), some (zi (nI k))] [] [zH, zG F0 G A1 B] 0 0 25 := by
    intro m
    induction m with
    | zero => intro k A1 hm; omega
    | succ m ih =>
      intro k A1 hm hk hA1 hR
      have c1 := fb_ct_le (fun k => !bt (nI s) k) k
      have t1 := fun z => (congrFun (hA1.at 6 rfl) k).trans (hf k z)
      have nx := fun A2 z1 z2 => ih (k + 1) A2 (by omega) z1 z2
      refine z_iload_n F dX6_toldAtMost_25 rfl ?_
      refine z_aload_n F dX6_toldAtMost_26 rfl ?_
      refine z_mi F rfl 4 rfl (Nat.le_of_ble_eq_true rfl) rfl q1484 dX6_toldAtMost_27 ?_
      refine z_ieq (h4) ?_
      refine z_icmp_geN F (by omega) (by omega) (tgt := 68) dX6_toldAtMost_30 (by decide) (fun c_30 => ?_) (fun c_30 => ?_)
      · have ek : k = n := by omega
        subst ek
        have hpk : packed k (fun k => !bt (nI s) k) f (A1 68) (nI s) := fun k' hk' hb => hR k' hk' (by
          have hb : (!bt (nI s) k') = true := hb
          cases h9 : bt (nI s) k' with
          | false => rfl
          | true => rw [h9] at hb; cases hb)
        refine z_aload_n F dX6_toldAtMost_68 rfl ?_
        refine z_iload_n F dX6_toldAtMost_69 rfl ?_
        refine z_callV F (c_mmatches F0 G A1 B (gR (A1 68)) (fb_ct (fun k => !bt (nI s) k) k) (fb_ct (fun k => !bt (nI s) k) k) (by omega) (Nat.le_refl _) (fun z t hz ht => (gR_eq ht).symm)) 1 rfl (lw_V q2111 q2113 qs99 q117 q2114) (by decide +kernel) ⟨Nat.le_of_ble_eq_true rfl, Nat.le_of_ble_eq_true rfl⟩ ⟨by omega, by omega⟩ [0, 1] 2 ⟨rfl, rfl, rfl, ⟨Or.inl rfl, Or.inr rfl, trivial⟩⟩ (fun h => nomatch h) (Nat.le_of_ble_eq_true rfl) ⟨⟨Or.inr trivial, Or.inl rfl, trivial⟩, rfl, rfl, rfl, Nat.le_of_ble_eq_true rfl⟩ rfl zC6 (zat_G0 rfl) rfl dX6_toldAtMost_70 (fun r_70 w_70 hp => ?_) (fun _ _ h => h.elim)
        obtain ⟨rfl, A2, rfl, g1⟩ := hp
        refine z_weq (w' := [zH, zG _ _ _ _]) rfl ?_
        refine z_seq (S' := zi _ :: _) rfl ?_
        exact z_iret F E rfl dX6_toldAtMost_73 (by omega) (by omega) (⟨by rw [pk_most hn hA hpk], A2, rfl, hA1.tr g1 (by decide) (by decide)⟩)
      · have t1 := t1 (by omega)
        have nx := fun A2 => nx A2 (by omega)
        refine z_iload_n F dX6_toldAtMost_33 rfl ?_
        refine z_iload_n F dX6_toldAtMost_34 rfl ?_
        refine z_ishr F dX6_toldAtMost_35 ?_
        refine z_iconst F (nI 1) dX6_toldAtMost_36 rfl ?_
        refine z_iandB F (by omega) dX6_toldAtMost_37 ?_
        refine z_iconst F (nI 1) dX6_toldAtMost_38 rfl ?_
        refine z_icmp_neB F (tgt := 45) dX6_toldAtMost_39 (by decide) (fun c_39 => ?_) (fun c_39 => ?_)
        · refine z_aload_n F dX6_toldAtMost_45 rfl ?_
          refine z_ma F rfl 68 rfl (Nat.le_of_ble_eq_true rfl) rfl q1548 dX6_toldAtMost_46 ?_
          refine z_iload_n F dX6_toldAtMost_49 rfl ?_
          refine z_aload_n F dX6_toldAtMost_50 rfl ?_
          refine z_ma F rfl 6 rfl (Nat.le_of_ble_eq_true rfl) rfl q1486 dX6_toldAtMost_51 ?_
          refine z_iload_n F dX6_toldAtMost_54 rfl ?_
          refine z_ialdGN F rfl rfl (Nat.le_of_ble_eq_true rfl) (by omega) rfl dX6_toldAtMost_55 ?_
          refine z_iload_n F dX6_toldAtMost_56 rfl ?_
          refine z_iand F dX6_toldAtMost_57 ?_
          refine z_ieq (congrArg (fun z => z &&& nI s) t1) ?_
          refine z_iastGN F rfl rfl (Nat.le_of_ble_eq_true rfl) (by omega) dX6_toldAtMost_58 ?_
          refine z_weq (w' := [_, _]) rfl ?_
          refine z_iincN F 1 dX6_toldAtMost_59 rfl rfl ?_
          refine z_leq (L' := [_, _, _, _]) rfl ?_
          refine z_iincN F 1 dX6_toldAtMost_62 rfl rfl ?_
          refine z_leq (L' := [_, _, _, _]) rfl ?_
          refine z_goto F (tgt := 25) dX6_toldAtMost_65 (by decide) ?_
          have e1 : fb_ct (fun k => !bt (nI s) k) (k + 1) = fb_ct (fun k => !bt (nI s) k) k + 1 := by rw [fb_ct_succ, c_39]; rfl
          have i1 := nx (zup2 A1 68 (fb_ct (fun k => !bt (nI s) k) k) (f k &&& nI s)) (frm_zup hA1 (by decide)) (fun k' hk' hb => by
            rw [zup2_row]
            show (if _ = _ then _ else A1 68 _) = _
            by_cases e : k' = k
            · rw [e, if_pos rfl]
            · have := cs_lt (sel := fun k => !bt (nI s) k) (show k' < k by omega) (by rw [hb]; rfl)
              rw [if_neg (by omega)]; exact hR k' (by omega) hb)
          rw [e1] at i1
          exact i1
        · refine z_goto F (tgt := 62) dX6_toldAtMost_42 (by decide) ?_
          refine z_iincN F 1 dX6_toldAtMost_62 rfl rfl ?_
          refine z_leq (L' := [_, _, _, _]) rfl ?_
          refine z_goto F (tgt := 25) dX6_toldAtMost_65 (by decide) ?_
          have e1 : fb_ct (fun k => !bt (nI s) k) (k + 1) = fb_ct (fun k => !bt (nI s) k) k := by rw [fb_ct_succ, c_39]; rfl
          have i1 := nx A1 hA1 (fun k' hk' hb => by
            by_cases e : k' = k
            · rw [e, c_39] at hb; cases hb
            · exact hR k' (by omega) hb)
          rw [e1] at i1
          exact i1
  have one : ∀ (m k : Nat) (A1 : Nat → Nat → Int32), 24 - k < m → k ≤ 24 → frm [68] A A1 → Z X [some (zr 1 0), some (zi (nI s)), some (zi (nI 0)), some (zi (nI k))] [] [zH, zG F0 G A1 B] 0 0 4 := by
    intro m
    induction m with
    | zero => intro k A1 hm; omega
    | succ m ih =>
      intro k A1 hm hk hA1
      refine z_iload_n F dX6_toldAtMost_4 rfl ?_
      refine z_bipush F (nI 24) dX6_toldAtMost_5 rfl ?_
      refine z_icmp_geN F (by omega) (by omega) (tgt := 23) dX6_toldAtMost_7 (by decide) (fun c_7 => ?_) (fun c_7 => ?_)
      · refine z_iconst F (nI 0) dX6_toldAtMost_23 rfl ?_
        refine z_istore_n F dX6_toldAtMost_24 (Nat.le_of_ble_eq_true rfl) ?_
        refine z_leq (L' := [_, _, _, _]) rfl ?_
        exact two (n + 1) 0 A1 (by omega) (by omega) hA1 (fun k' hk' => absurd hk' (by omega))
      · refine z_aload_n F dX6_toldAtMost_10 rfl ?_
        refine z_ma F rfl 68 rfl (Nat.le_of_ble_eq_true rfl) rfl q1548 dX6_toldAtMost_11 ?_
        refine z_iload_n F dX6_toldAtMost_14 rfl ?_
        refine z_iconst F (nI 0) dX6_toldAtMost_15 rfl ?_
        refine z_iastGN F rfl rfl (Nat.le_of_ble_eq_true rfl) (by omega) dX6_toldAtMost_16 ?_
        refine z_weq (w' := [_, _]) rfl ?_
        refine z_iincN F 1 dX6_toldAtMost_17 rfl rfl ?_
        refine z_leq (L' := [_, _, _, _]) rfl ?_
        refine z_goto F (tgt := 4) dX6_toldAtMost_20 (by decide) ?_
        exact ih (k + 1) _ (by omega) (by omega) (frm_zup hA1 (by decide))
  refine z_iconst F (nI 0) dX6_toldAtMost_0 rfl ?_
  refine z_istore_n F dX6_toldAtMost_1 (Nat.le_of_ble_eq_true rfl) ?_
  refine z_leq (L' := [_, _, _, _]) rfl ?_
  refine z_iconst F (nI 0) dX6_toldAtMost_2 rfl ?_
  refine z_istore_n F dX6_toldAtMost_3 (Nat.le_of_ble_eq_true rfl) ?_
  refine z_leq (L' := [_, _, _, _]) rfl ?_
  exact one 25 0 A (by omega) (by omega) frm.rf
theorem c_mareTold (F0 : Nat → Int32) (G : Nat → Int64) (A : Nat → Nat → Int32) (B : Nat → Nat → Int64) (n s q : Nat) (f : Nat → Int32) (hn : n ≤ 24) (hq : q < 2 ^ n) (h4 : F0 4 = nI n) (hf : ∀ k, k < n → A 6 k = f k) :
    zCtr yX6_areTold cX6_areTold 5 (some .boolean) 3 0 0 [zr 1 0, zi (nI s), zi (nI q)] [zH, zG F0 G A B] (fun r w => ∃ b, r = some (zi (bI b)) ∧ (b = true ↔ mA (tg f (nI s)) (fun k => bt (nI q) k = true)) ∧ ∃ A', w = [zH, zG F0 G A' B] ∧ frm [68, 69, 70, 71] A A') zNx := by
  refine z_start (by decide) [some (zr 1 0), some (zi (nI s)), some (zi (nI q)), none, none] rfl (fun _ => Nat.le_of_ble_eq_true rfl) (fun _ => rfl) (fun X F E hno hin => ?_)
  have two : ∀ (m k : Nat) (A1 : Nat → Nat → Int32), n - k < m → k ≤ n → frm [68] A A1 → (∀ k', k' < k → bt (nI q) k' = true → A1 68 (fb_ct (bt (nI q)) k') = f k' &&& nI s) → Z X [some (zr 1 0), some (zi (nI s)), some (zi (nI q)), some (zi (nI (fb_ct (bt (nI q)) k))), some (zi (nI k))] [] [zH, zG F0 G A1 B] 0 0 29 := by
    intro m
    induction m with
    | zero => intro k A1 hm; omega
    | succ m ih =>
      intro k A1 hm hk hA1 hR
      have c1 := fb_ct_le (bt (nI q)) k
      have t1 := fun z => (congrFun (hA1.at 6 rfl) k).trans (hf k z)
      have nx := fun A2 z1 z2 => ih (k + 1) A2 (by omega) z1 z2
      refine z_iload F dX6_areTold_29 rfl ?_
      refine z_aload_n F dX6_areTold_31 rfl ?_
      refine z_mi F rfl 4 rfl (Nat.le_of_ble_eq_true rfl) rfl q1484 dX6_areTold_32 ?_
      refine z_ieq (h4) ?_
      refine z_icmp_geN F (by omega) (by omega) (tgt := 74) dX6_areTold_35 (by decide) (fun c_35 => ?_) (fun c_35 => ?_)
      · have ek : k = n := by omega
        subst ek
        have hpk : packed k (bt (nI q)) f (A1 68) (nI s) := hR
        have hgk := gN_k (g := gR (A1 68)) (fb_ct (bt (nI q)) k)
        have hall_ := (pk_all hn hpk).trans ⟨fun z => mA_sub z (fun y hy => ⟨in_lt hq hy, hy⟩), fun z => mA_sub z (fun y hy => hy.2)⟩
        refine z_aload_n F dX6_areTold_74 rfl ?_
        refine z_iload_n F dX6_areTold_75 rfl ?_
        refine z_callV F (c_mmatches F0 G A1 B (gR (A1 68)) (fb_ct (bt (nI q)) k) (fb_ct (bt (nI q)) k) (by omega) (Nat.le_refl _) (fun z t hz ht => (gR_eq ht).symm)) 1 rfl (lw_V q2111 q2113 qs99 q117 q2114) (by decide +kernel) ⟨Nat.le_of_ble_eq_true rfl, Nat.le_of_ble_eq_true rfl⟩ ⟨by omega, by omega⟩ [0, 1] 2 ⟨rfl, rfl, rfl, ⟨Or.inl rfl, Or.inr rfl, trivial⟩⟩ (fun h => nomatch h) (Nat.le_of_ble_eq_true rfl) ⟨⟨Or.inr trivial, Or.inl rfl, trivial⟩, rfl, rfl, rfl, Nat.le_of_ble_eq_true rfl⟩ rfl zC6 (zat_G0 rfl) rfl dX6_areTold_76 (fun r_76 w_76 hp => ?_) (fun _ _ h => h.elim)
        obtain ⟨rfl, A2, rfl, g1⟩ := hp
        refine z_weq (w' := [zH, zG _ _ _ _]) rfl ?_
        refine z_seq (S' := zi _ :: _) rfl ?_
        refine z_iload_n F dX6_areTold_79 rfl ?_
        refine z_icmp_neN F (by omega) (by omega) (tgt := 87) dX6_areTold_80 (by decide) (fun c_80 => ?_) (fun c_80 => ?_)
        · refine z_iconstB F false dX6_areTold_87 rfl ?_
          exact z_zret F E rfl (bI_nar _) dX6_areTold_88 (by omega) (by omega) (⟨false, rfl, ⟨fun z => (by cases z), fun z => absurd (hall_.mpr z) c_80⟩, A2, rfl, hA1.tr g1 (by decide) (by decide)⟩)
        · refine z_iconstB F true dX6_areTold_83 rfl ?_
          refine z_goto F (tgt := 88) dX6_areTold_84 (by decide) ?_
          exact z_zret F E rfl (bI_nar _) dX6_areTold_88 (by omega) (by omega) (⟨true, rfl, ⟨fun _ => hall_.mp c_80, fun _ => rfl⟩, A2, rfl, hA1.tr g1 (by decide) (by decide)⟩)
      · have t1 := t1 (by omega)
        have nx := fun A2 => nx A2 (by omega)
        refine z_iload_n F dX6_areTold_38 rfl ?_
        refine z_iload F dX6_areTold_39 rfl ?_
        refine z_ishr F dX6_areTold_41 ?_
        refine z_iconst F (nI 1) dX6_areTold_42 rfl ?_
        refine z_iandB F (by omega) dX6_areTold_43 ?_
        refine z_if_neB F (tgt := 50) dX6_areTold_44 (by decide) (fun c_44 => ?_) (fun c_44 => ?_)
        · refine z_aload_n F dX6_areTold_50 rfl ?_
          refine z_ma F rfl 68 rfl (Nat.le_of_ble_eq_true rfl) rfl q1548 dX6_areTold_51 ?_
          refine z_iload_n F dX6_areTold_54 rfl ?_
          refine z_aload_n F dX6_areTold_55 rfl ?_
          refine z_ma F rfl 6 rfl (Nat.le_of_ble_eq_true rfl) rfl q1486 dX6_areTold_56 ?_
          refine z_iload F dX6_areTold_59 rfl ?_
          refine z_ialdGN F rfl rfl (Nat.le_of_ble_eq_true rfl) (by omega) rfl dX6_areTold_61 ?_
          refine z_iload_n F dX6_areTold_62 rfl ?_
          refine z_iand F dX6_areTold_63 ?_
          refine z_ieq (congrArg (fun z => z &&& nI s) t1) ?_
          refine z_iastGN F rfl rfl (Nat.le_of_ble_eq_true rfl) (by omega) dX6_areTold_64 ?_
          refine z_weq (w' := [_, _]) rfl ?_
          refine z_iincN F 1 dX6_areTold_65 rfl rfl ?_
          refine z_leq (L' := [_, _, _, _, _]) rfl ?_
          refine z_iincN F 1 dX6_areTold_68 rfl rfl ?_
          refine z_leq (L' := [_, _, _, _, _]) rfl ?_
          refine z_goto F (tgt := 29) dX6_areTold_71 (by decide) ?_
          have e1 : fb_ct (bt (nI q)) (k + 1) = fb_ct (bt (nI q)) k + 1 := by rw [fb_ct_succ, c_44]; rfl
          have i1 := nx (zup2 A1 68 (fb_ct (bt (nI q)) k) (f k &&& nI s)) (frm_zup hA1 (by decide)) (fun k' hk' hb => by
            rw [zup2_row]
            show (if _ = _ then _ else A1 68 _) = _
            by_cases e : k' = k
            · rw [e, if_pos rfl]
            · have := cs_lt (sel := bt (nI q)) (show k' < k by omega) hb
              rw [if_neg (by omega)]; exact hR k' (by omega) hb)
          rw [e1] at i1
          exact i1
        · refine z_goto F (tgt := 68) dX6_areTold_47 (by decide) ?_
          refine z_iincN F 1 dX6_areTold_68 rfl rfl ?_
          refine z_leq (L' := [_, _, _, _, _]) rfl ?_
          refine z_goto F (tgt := 29) dX6_areTold_71 (by decide) ?_
          have e1 : fb_ct (bt (nI q)) (k + 1) = fb_ct (bt (nI q)) k := by rw [fb_ct_succ, c_44]; rfl
          have i1 := nx A1 hA1 (fun k' hk' hb => by
            by_cases e : k' = k
            · rw [e, c_44] at hb; cases hb
            · exact hR k' (by omega) hb)
          rw [e1] at i1
          exact i1
  have one : ∀ (m k : Nat) (A1 : Nat → Nat → Int32), 24 - k < m → k ≤ 24 → frm [68] A A1 → Z X [some (zr 1 0), some (zi (nI s)), some (zi (nI q)), some (zi (nI 0)), some (zi (nI k))] [] [zH, zG F0 G A1 B] 0 0 5 := by
    intro m
    induction m with
    | zero => intro k A1 hm; omega
    | succ m ih =>
      intro k A1 hm hk hA1
      refine z_iload F dX6_areTold_5 rfl ?_
      refine z_bipush F (nI 24) dX6_areTold_7 rfl ?_
      refine z_icmp_geN F (by omega) (by omega) (tgt := 26) dX6_areTold_9 (by decide) (fun c_9 => ?_) (fun c_9 => ?_)
      · refine z_iconst F (nI 0) dX6_areTold_26 rfl ?_
        refine z_istore F dX6_areTold_27 (Nat.le_of_ble_eq_true rfl) ?_
        refine z_leq (L' := [_, _, _, _, _]) rfl ?_
        exact two (n + 1) 0 A1 (by omega) (by omega) hA1 (fun k' hk' => absurd hk' (by omega))
      · refine z_aload_n F dX6_areTold_12 rfl ?_
        refine z_ma F rfl 68 rfl (Nat.le_of_ble_eq_true rfl) rfl q1548 dX6_areTold_13 ?_
        refine z_iload F dX6_areTold_16 rfl ?_
        refine z_iconst F (nI 0) dX6_areTold_18 rfl ?_
        refine z_iastGN F rfl rfl (Nat.le_of_ble_eq_true rfl) (by omega) dX6_areTold_19 ?_
        refine z_weq (w' := [_, _]) rfl ?_
        refine z_iincN F 1 dX6_areTold_20 rfl rfl ?_
        refine z_leq (L' := [_, _, _, _, _]) rfl ?_
        refine z_goto F (tgt := 5) dX6_areTold_23 (by decide) ?_
        exact ih (k + 1) _ (by omega) (by omega) (frm_zup hA1 (by decide))
  refine z_iconst F (nI 0) dX6_areTold_0 rfl ?_
  refine z_istore_n F dX6_areTold_1 (Nat.le_of_ble_eq_true rfl) ?_
  refine z_leq (L' := [_, _, _, _, _]) rfl ?_
  refine z_iconst F (nI 0) dX6_areTold_2 rfl ?_
  refine z_istore F dX6_areTold_3 (Nat.le_of_ble_eq_true rfl) ?_
  refine z_leq (L' := [_, _, _, _, _]) rfl ?_
  exact one 25 0 A (by omega) (by omega) frm.rf
end C9yl
