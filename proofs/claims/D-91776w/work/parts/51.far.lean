/-! what is asked of one net: about, lineAt, far, apart -/
section C51
theorem PP_dst {n : Nat} {f : Nat → Int32} {st : Int32} {s k : Nat} (hs : bt st s = true) (hst : ∀ i, bt st i = true → i < n) (hk : k < 32) : ∀ (m e : Nat), e < m → PP f st e s k → ∃ d, d ≤ e ∧ dst n f st s k = some d := by
  intro m
  induction m with
  | zero => intro e h; omega
  | succ m ih =>
    intro e he h
    by_cases q : ∃ e', e' < e ∧ PP f st e' s k
    · obtain ⟨e', h1, h2⟩ := q
      obtain ⟨d, h3, h4⟩ := ih e' (by omega) h2
      exact ⟨d, by omega, h4⟩
    · exact ⟨e, Nat.le_refl _, (dst_PP hs hst hk).mpr ⟨h, fun e' h1 h2 => q ⟨e', h1, h2⟩⟩⟩
theorem PP.app {f : Nat → Int32} {st : Int32} {a b : Nat} {e : Nat} (h : PP f st e a b) : ∀ {e' c : Nat}, PP f st e' b c → PP f st (e + e') a c
  | 0, c, h2 => by obtain ⟨rfl, -⟩ := h2; exact h
  | e' + 1, c, h2 => by obtain ⟨x, h3, h4, h5⟩ := h2; exact ⟨x, h.app h3, h4, h5⟩
theorem dst_cat {n : Nat} {f : Nat → Int32} {st : Int32} {a b c d1 d2 : Nat} (ha : bt st a = true) (hb : bt st b = true) (hc : c < 32) (hst : ∀ i, bt st i = true → i < n) (h1 : dst n f st a b = some d1) (h2 : dst n f st b c = some d2) : ∃ d, d ≤ d1 + d2 ∧ dst n f st a c = some d :=
  PP_dst ha hst hc (d1 + d2 + 1) (d1 + d2) (Nat.lt_succ_self _) (((dst_PP ha hst (bt32 hb)).mp h1).1.app ((dst_PP hb hst hc).mp h2).1)
theorem al_lt {n : Nat} (hn : n ≤ 24) : ∀ i, bt (allB n) i = true → i < n := fun i h => by rw [bt_allB hn] at h; simpa using h
theorem al_t {n i : Nat} (hn : n ≤ 24) (h : i < n) : bt (allB n) i = true := by rw [bt_allB hn]; simpa using h
theorem cjn_conn {n : Nat} {f : Nat → Int32} (h1 : 1 ≤ n) (hn : n ≤ 24) (hs : ∀ a b, a < n → b < n → bt (f a) b = bt (f b) a) : cjn n f = true ↔ conn n f (allB n) := by
  have h0 := al_t hn h1
  unfold cjn
  rw [decide_eq_true_eq, sn_st h0 (al_lt hn)]
  constructor
  · intro h a b ha hb
    obtain ⟨d1, e1⟩ := h a ha
    obtain ⟨d2, e2⟩ := h b hb
    rw [dst_sym h0 ha (al_lt hn) hs] at e1
    obtain ⟨d, -, e⟩ := dst_cat ha h0 (bt32 hb) (al_lt hn) e1 e2
    exact ⟨d, e⟩
  · exact fun h b hb => h 0 b h0 hb
theorem mw_conn {n : Nat} {f : Nat → Int32} (hn : n ≤ 24) (hs : ∀ a b, a < n → b < n → bt (f a) b = bt (f b) a) : (mw n f (allB n) n).isSome = true ↔ conn n f (allB n) := by
  cases hq : mw n f (allB n) n with
  | none =>
    refine ⟨(fun h => nomatch h), fun h => absurd h (cfa_none_conn (al_lt hn) (mw_none (h32 := by omega) (al_lt hn) hq))⟩
  | some p =>
    obtain ⟨F, S⟩ := p
    exact ⟨fun _ => (mw_some (al_lt hn) hs hq).2, fun _ => rfl⟩
theorem cjn_mw {n d : Nat} {f : Nat → Int32} (h : nok n d f) : cjn n f = (mw n f (allB n) n).isSome := by
  have e1 := cjn_conn h.n1 h.n24 (fun a b ha hb => h.sym ha hb)
  have e2 := mw_conn h.n24 (fun a b ha hb => h.sym ha hb)
  cases q1 : cjn n f <;> cases q2 : (mw n f (allB n) n).isSome <;> rw [q1] at e1 <;> rw [q2] at e2
  · exact absurd (e1.mpr (e2.mp rfl)) (by decide)
  · exact absurd (e2.mpr (e1.mp rfl)) (by decide)
noncomputable def farV (n : Nat) (f : Nat → Int32) (x : Nat) : Int32 :=
  if x = 0 then (if cjn n f then nI (cfar n f (allB n)) else -1) else if x = 1 then (if cjn n f then nI (csm n f / 2) else -1) else if x = 2 then dI (grf n f (prs n f) (prs n f).length)
  else if x = 3 then (if n = 1 then -1 else nI (lsf (fun b => mfl n f 24 0 b) 24 n)) else if x = 4 then nI (tka (fun a b => mfl n f 1 a b) n f n) else nI (cpr n f)
theorem farV_2 {n : Nat} {f : Nat → Int32} : farV n f 2 = dI (grf n f (prs n f) (prs n f).length) := rfl
theorem farV_3 {n : Nat} {f : Nat → Int32} : farV n f 3 = (if n = 1 then -1 else nI (lsf (fun b => mfl n f 24 0 b) 24 n)) := rfl
theorem farV_4 {n : Nat} {f : Nat → Int32} : farV n f 4 = nI (tka (fun a b => mfl n f 1 a b) n f n) := rfl
theorem farV_5 {n : Nat} {f : Nat → Int32} : farV n f 5 = nI (cpr n f) := rfl
theorem mfl_le {n : Nat} {f : Nat → Int32} {cp a b : Nat} (hn : n ≤ 24) (hab : a ≠ b) (ha : a < n) : mfl n f cp a b ≤ 24 := by
  unfold mfl
  split
  · rename_i h
    exact isMinK_le hab ha hn (Classical.choose_spec h)
  · decide
theorem farV_3m {n : Nat} {f : Nat → Int32} (h1 : 1 ≤ n) (hn : n ≤ 24) : farV n f 3 = (if n = 1 then -1 else nI (lsf (fun b => mfl n f 24 0 b) 99 n)) := by
  rw [farV_3]
  by_cases e : n = 1
  · rw [if_pos e, if_pos e]
  · rw [if_neg e, if_neg e, lsf_one (z := 24) (z' := 99) (by omega) (fun i hi hi2 => by
      have : mfl n f 24 0 i ≤ 24 := mfl_le hn (by omega) (by omega)
      omega)]
theorem farV_01 {n d : Nat} {f : Nat → Int32} (h : nok n d f) {p : Nat × Nat} (hp : mw n f (allB n) n = some p) : farV n f 0 = nI p.1 ∧ farV n f 1 = nI p.2 := by
  have e : cjn n f = true := by rw [cjn_mw h, hp]; rfl
  obtain ⟨F, S⟩ := p
  have e1 := (mw_some (al_lt h.n24) (fun a b ha hb => h.sym ha hb) hp).1
  have e2 := sums_D h.n24 (fun a b ha hb => h.sym ha hb) hp
  constructor
  · show (if cjn n f then nI (cfar n f (allB n)) else -1) = nI F
    rw [if_pos e]; unfold cfar; rw [e1]
  · show (if cjn n f then nI (csm n f / 2) else -1) = nI S
    rw [if_pos e, e2]
theorem farV_01n {n d : Nat} {f : Nat → Int32} (h : nok n d f) (hp : mw n f (allB n) n = none) {x : Nat} (hx : x < 2) : farV n f x = -1 := by
  have e : cjn n f = false := by rw [cjn_mw h, hp]; rfl
  unfold farV
  by_cases q : x = 0
  · rw [if_pos q, e]; rfl
  · rw [if_neg q, if_pos (by omega), e]; rfl
theorem inB_ff {x a b : Int32} (h : inB x a b = false) (h1 : ¬ x < a) (h2 : ¬ b < x) : False := by
  unfold inB at h
  rw [decide_eq_false_iff_not] at h
  exact h ⟨h1, h2⟩
theorem c_mabout_ok (F0 : Nat → Int32) (G : Nat → Int64) (A : Nat → Nat → Int32) (B : Nat → Nat → Int64) (j n d : Nat) (f : Nat → Int32) (x : Nat) (hj : j < 8) (h : nok n d f) (hs : Slt A j n (nI d) f) (hx : x < 5) :
    zCtr yX6_about cX6_about 6 (some .int) 2 0 0 [zr 1 0, zi (nI j), zi (nI x)] [zH, zG F0 G A B] (fun r w => r = some (zi (nI (abD n d f x))) ∧ ∃ F' A', w = [zH, zG F' G A' B] ∧ F' 0 = nI 0 ∧ frm [0, 4, 5, 20] F0 F' ∧ frm [6, 21, 22] A A') zNx := by
  refine z_start (by decide) [some (zr 1 0), some (zi (nI j)), some (zi (nI x)), none, none, none] rfl (fun _ => Nat.le_of_ble_eq_true rfl) (fun _ => rfl) (fun X F E hno hin => ?_)
  have hn1 := h.n1
  have hn := h.n24
  have hd := h.d8
  have h96 := prs_96 h
  have loop : ∀ (F1 : Nat → Int32) (A1 : Nat → Nat → Int32), F1 0 = nI 0 → F1 4 = nI n → F1 5 = nI d → F1 20 = nI (prs n f).length → frm [0, 4, 5, 20] F0 F1 → frm [6, 21, 22] A A1 → (∀ k, k < n → A1 6 k = f k) → ∀ (m k : Nat), n - k < m → k ≤ n → Z X [some (zr 1 0), some (zi (nI j)), some (zi (nI x)), some (zi (nI (mnD f k))), some (zi (nI (mxD f k))), some (zi (nI k))] [] [zH, zG F1 G A1 B] 0 0 45 := by
    intro F1 A1 g0 g4 g5 g20 hF hA hf m
    induction m with
    | zero => intro k hm; omega
    | succ m ih =>
      intro k hm hk
      have b1 := mnD_le f k
      have b2 := mxD_le f k
      have b3 := pc32_le (f k)
      refine z_iload F dX6_about_45 rfl ?_
      refine z_aload_n F dX6_about_47 rfl ?_
      refine z_mi F rfl 4 rfl (Nat.le_of_ble_eq_true rfl) rfl q1484 dX6_about_48 ?_
      refine z_ieq (g4) ?_
      refine z_icmp_geN F (by omega) (by omega) (tgt := 121) dX6_about_51 (by decide) (fun c_51 => ?_) (fun c_51 => ?_)
      · have ek : k = n := by omega
        subst ek
        refine z_iload_n F dX6_about_121 rfl ?_
        refine z_if_neN F (by omega) (tgt := 132) dX6_about_122 (by decide) (fun c_122 => ?_) (fun c_122 => ?_)
        · refine z_iload_n F dX6_about_132 rfl ?_
          refine z_iconst F (nI 1) dX6_about_133 rfl ?_
          refine z_icmp_neN F (by omega) (by omega) (tgt := 144) dX6_about_134 (by decide) (fun c_134 => ?_) (fun c_134 => ?_)
          · refine z_iload_n F dX6_about_144 rfl ?_
            refine z_iconst F (nI 2) dX6_about_145 rfl ?_
            refine z_icmp_neN F (by omega) (by omega) (tgt := 156) dX6_about_146 (by decide) (fun c_146 => ?_) (fun c_146 => ?_)
            · refine z_iload_n F dX6_about_156 rfl ?_
              refine z_iconst F (nI 3) dX6_about_157 rfl ?_
              refine z_icmp_neN F (by omega) (by omega) (tgt := 165) dX6_about_158 (by decide) (fun c_158 => ?_) (fun c_158 => ?_)
              · refine z_iload F dX6_about_165 rfl ?_
                exact z_iret F E rfl dX6_about_167 (by omega) (by omega) (⟨by first | (rw [c_122]; rfl) | (rw [c_134]; rfl) | (rw [c_146]; rfl) | (rw [c_158]; rfl) | (have e : x = 4 := (by omega); rw [e]; rfl), F1, A1, rfl, g0, hF, hA⟩)
              · refine z_iload_n F dX6_about_161 rfl ?_
                refine z_goto F (tgt := 167) dX6_about_162 (by decide) ?_
                exact z_iret F E rfl dX6_about_167 (by omega) (by omega) (⟨by first | (rw [c_122]; rfl) | (rw [c_134]; rfl) | (rw [c_146]; rfl) | (rw [c_158]; rfl) | (have e : x = 4 := (by omega); rw [e]; rfl), F1, A1, rfl, g0, hF, hA⟩)
            · refine z_aload_n F dX6_about_149 rfl ?_
              refine z_mi F rfl 20 rfl (Nat.le_of_ble_eq_true rfl) rfl q1500 dX6_about_150 ?_
              refine z_ieq (g20) ?_
              refine z_goto F (tgt := 167) dX6_about_153 (by decide) ?_
              exact z_iret F E rfl dX6_about_167 (by omega) (by omega) (⟨by first | (rw [c_122]; rfl) | (rw [c_134]; rfl) | (rw [c_146]; rfl) | (rw [c_158]; rfl) | (have e : x = 4 := (by omega); rw [e]; rfl), F1, A1, rfl, g0, hF, hA⟩)
          · refine z_aload_n F dX6_about_137 rfl ?_
            refine z_mi F rfl 5 rfl (Nat.le_of_ble_eq_true rfl) rfl q1485 dX6_about_138 ?_
            refine z_ieq (g5) ?_
            refine z_goto F (tgt := 167) dX6_about_141 (by decide) ?_
            exact z_iret F E rfl dX6_about_167 (by omega) (by omega) (⟨by first | (rw [c_122]; rfl) | (rw [c_134]; rfl) | (rw [c_146]; rfl) | (rw [c_158]; rfl) | (have e : x = 4 := (by omega); rw [e]; rfl), F1, A1, rfl, g0, hF, hA⟩)
        · refine z_aload_n F dX6_about_125 rfl ?_
          refine z_mi F rfl 4 rfl (Nat.le_of_ble_eq_true rfl) rfl q1484 dX6_about_126 ?_
          refine z_ieq (g4) ?_
          refine z_goto F (tgt := 167) dX6_about_129 (by decide) ?_
          exact z_iret F E rfl dX6_about_167 (by omega) (by omega) (⟨by first | (rw [c_122]; rfl) | (rw [c_134]; rfl) | (rw [c_146]; rfl) | (rw [c_158]; rfl) | (have e : x = 4 := (by omega); rw [e]; rfl), F1, A1, rfl, g0, hF, hA⟩)
      · refine z_aload_n F dX6_about_54 rfl ?_
        refine z_ma F rfl 6 rfl (Nat.le_of_ble_eq_true rfl) rfl q1486 dX6_about_55 ?_
        refine z_iload F dX6_about_58 rfl ?_
        refine z_ialdGN F rfl rfl (Nat.le_of_ble_eq_true rfl) (by omega) rfl dX6_about_60 ?_
        refine z_ieq (hf k (by omega)) ?_
        refine z_callS F (c_bits (f k)) 1 rfl (lw_S q1752 q1753 q117 q1754) (by decide +kernel) ⟨Nat.le_of_ble_eq_true rfl, Nat.le_of_ble_eq_true rfl⟩ ⟨by omega, by omega⟩ [0] 2 ⟨rfl, rfl, rfl, ⟨Or.inl rfl, trivial⟩⟩ (fun h => nomatch h) (Nat.le_of_ble_eq_true rfl) ⟨⟨Or.inr trivial, Or.inr trivial, trivial⟩, rfl, rfl, rfl, Nat.le_of_ble_eq_true rfl⟩ rfl rfl dX6_about_61 (fun r_61 w_61 hp => ?_) (fun _ _ h => h.elim)
        obtain ⟨rfl, rfl⟩ := hp
        refine z_weq (w' := [zH, zG _ _ _ _]) rfl ?_
        refine z_seq (S' := zi _ :: _) rfl ?_
        refine z_iload_n F dX6_about_64 rfl ?_
        refine z_icmp_geN F (by omega) (by omega) (tgt := 81) dX6_about_65 (by decide) (fun c_65 => ?_) (fun c_65 => ?_)
        · refine z_iload_n F dX6_about_81 rfl ?_
          refine z_istore_n F dX6_about_82 (Nat.le_of_ble_eq_true rfl) ?_
          refine z_leq (L' := [_, _, _, _, _, _]) rfl ?_
          refine z_aload_n F dX6_about_83 rfl ?_
          refine z_ma F rfl 6 rfl (Nat.le_of_ble_eq_true rfl) rfl q1486 dX6_about_84 ?_
          refine z_iload F dX6_about_87 rfl ?_
          refine z_ialdGN F rfl rfl (Nat.le_of_ble_eq_true rfl) (by omega) rfl dX6_about_89 ?_
          refine z_ieq (hf k (by omega)) ?_
          refine z_callS F (c_bits (f k)) 1 rfl (lw_S q1752 q1753 q117 q1754) (by decide +kernel) ⟨Nat.le_of_ble_eq_true rfl, Nat.le_of_ble_eq_true rfl⟩ ⟨by omega, by omega⟩ [0] 2 ⟨rfl, rfl, rfl, ⟨Or.inl rfl, trivial⟩⟩ (fun h => nomatch h) (Nat.le_of_ble_eq_true rfl) ⟨⟨Or.inr trivial, Or.inr trivial, trivial⟩, rfl, rfl, rfl, Nat.le_of_ble_eq_true rfl⟩ rfl rfl dX6_about_90 (fun r_90 w_90 hp => ?_) (fun _ _ h => h.elim)
          obtain ⟨rfl, rfl⟩ := hp
          refine z_weq (w' := [zH, zG _ _ _ _]) rfl ?_
          refine z_seq (S' := zi _ :: _) rfl ?_
          refine z_iload F dX6_about_93 rfl ?_
          refine z_icmp_leN F (by omega) (by omega) (tgt := 111) dX6_about_95 (by decide) (fun c_95 => ?_) (fun c_95 => ?_)
          · refine z_iload F dX6_about_111 rfl ?_
            refine z_istore F dX6_about_113 (Nat.le_of_ble_eq_true rfl) ?_
            refine z_leq (L' := [_, _, _, _, _, _]) rfl ?_
            refine z_iincN F 1 dX6_about_115 rfl rfl ?_
            refine z_leq (L' := [_, _, _, _, _, _]) rfl ?_
            refine z_goto F (tgt := 45) dX6_about_118 (by decide) ?_
            refine z_loc [some (zr 1 0), some (zi (nI j)), some (zi (nI x)), some (zi (nI (mnD f (k + 1)))), some (zi (nI (mxD f (k + 1)))), some (zi (nI (k + 1)))] ⟨rfl, rfl, rfl, ?_, ?_, rfl, trivial⟩ (ih (k + 1) (by omega) (by omega))
            · rw [show mnD f (k + 1) = min (mnD f k) (pc32 (f k)) from rfl]
              first | (rw [Nat.min_eq_right (by omega)]; done) | (rw [Nat.min_eq_left (by omega)]; done)
            · rw [show mxD f (k + 1) = max (mxD f k) (pc32 (f k)) from rfl]
              first | (rw [Nat.max_eq_right (by omega)]; done) | (rw [Nat.max_eq_left (by omega)]; done)
          · refine z_aload_n F dX6_about_98 rfl ?_
            refine z_ma F rfl 6 rfl (Nat.le_of_ble_eq_true rfl) rfl q1486 dX6_about_99 ?_
            refine z_iload F dX6_about_102 rfl ?_
            refine z_ialdGN F rfl rfl (Nat.le_of_ble_eq_true rfl) (by omega) rfl dX6_about_104 ?_
            refine z_ieq (hf k (by omega)) ?_
            refine z_callS F (c_bits (f k)) 1 rfl (lw_S q1752 q1753 q117 q1754) (by decide +kernel) ⟨Nat.le_of_ble_eq_true rfl, Nat.le_of_ble_eq_true rfl⟩ ⟨by omega, by omega⟩ [0] 2 ⟨rfl, rfl, rfl, ⟨Or.inl rfl, trivial⟩⟩ (fun h => nomatch h) (Nat.le_of_ble_eq_true rfl) ⟨⟨Or.inr trivial, Or.inr trivial, trivial⟩, rfl, rfl, rfl, Nat.le_of_ble_eq_true rfl⟩ rfl rfl dX6_about_105 (fun r_105 w_105 hp => ?_) (fun _ _ h => h.elim)
            obtain ⟨rfl, rfl⟩ := hp
            refine z_weq (w' := [zH, zG _ _ _ _]) rfl ?_
            refine z_seq (S' := zi _ :: _) rfl ?_
            refine z_goto F (tgt := 113) dX6_about_108 (by decide) ?_
            refine z_istore F dX6_about_113 (Nat.le_of_ble_eq_true rfl) ?_
            refine z_leq (L' := [_, _, _, _, _, _]) rfl ?_
            refine z_iincN F 1 dX6_about_115 rfl rfl ?_
            refine z_leq (L' := [_, _, _, _, _, _]) rfl ?_
            refine z_goto F (tgt := 45) dX6_about_118 (by decide) ?_
            refine z_loc [some (zr 1 0), some (zi (nI j)), some (zi (nI x)), some (zi (nI (mnD f (k + 1)))), some (zi (nI (mxD f (k + 1)))), some (zi (nI (k + 1)))] ⟨rfl, rfl, rfl, ?_, ?_, rfl, trivial⟩ (ih (k + 1) (by omega) (by omega))
            · rw [show mnD f (k + 1) = min (mnD f k) (pc32 (f k)) from rfl]
              first | (rw [Nat.min_eq_right (by omega)]; done) | (rw [Nat.min_eq_left (by omega)]; done)
            · rw [show mxD f (k + 1) = max (mxD f k) (pc32 (f k)) from rfl]
              first | (rw [Nat.max_eq_right (by omega)]; done) | (rw [Nat.max_eq_left (by omega)]; done)
        · refine z_aload_n F dX6_about_68 rfl ?_
          refine z_ma F rfl 6 rfl (Nat.le_of_ble_eq_true rfl) rfl q1486 dX6_about_69 ?_
          refine z_iload F dX6_about_72 rfl ?_
          refine z_ialdGN F rfl rfl (Nat.le_of_ble_eq_true rfl) (by omega) rfl dX6_about_74 ?_
          refine z_ieq (hf k (by omega)) ?_
          refine z_callS F (c_bits (f k)) 1 rfl (lw_S q1752 q1753 q117 q1754) (by decide +kernel) ⟨Nat.le_of_ble_eq_true rfl, Nat.le_of_ble_eq_true rfl⟩ ⟨by omega, by omega⟩ [0] 2 ⟨rfl, rfl, rfl, ⟨Or.inl rfl, trivial⟩⟩ (fun h => nomatch h) (Nat.le_of_ble_eq_true rfl) ⟨⟨Or.inr trivial, Or.inr trivial, trivial⟩, rfl, rfl, rfl, Nat.le_of_ble_eq_true rfl⟩ rfl rfl dX6_about_75 (fun r_75 w_75 hp => ?_) (fun _ _ h => h.elim)
          obtain ⟨rfl, rfl⟩ := hp
          refine z_weq (w' := [zH, zG _ _ _ _]) rfl ?_
          refine z_seq (S' := zi _ :: _) rfl ?_
          refine z_goto F (tgt := 82) dX6_about_78 (by decide) ?_
          refine z_istore_n F dX6_about_82 (Nat.le_of_ble_eq_true rfl) ?_
          refine z_leq (L' := [_, _, _, _, _, _]) rfl ?_
          refine z_aload_n F dX6_about_83 rfl ?_
          refine z_ma F rfl 6 rfl (Nat.le_of_ble_eq_true rfl) rfl q1486 dX6_about_84 ?_
          refine z_iload F dX6_about_87 rfl ?_
          refine z_ialdGN F rfl rfl (Nat.le_of_ble_eq_true rfl) (by omega) rfl dX6_about_89 ?_
          refine z_ieq (hf k (by omega)) ?_
          refine z_callS F (c_bits (f k)) 1 rfl (lw_S q1752 q1753 q117 q1754) (by decide +kernel) ⟨Nat.le_of_ble_eq_true rfl, Nat.le_of_ble_eq_true rfl⟩ ⟨by omega, by omega⟩ [0] 2 ⟨rfl, rfl, rfl, ⟨Or.inl rfl, trivial⟩⟩ (fun h => nomatch h) (Nat.le_of_ble_eq_true rfl) ⟨⟨Or.inr trivial, Or.inr trivial, trivial⟩, rfl, rfl, rfl, Nat.le_of_ble_eq_true rfl⟩ rfl rfl dX6_about_90 (fun r_90 w_90 hp => ?_) (fun _ _ h => h.elim)
          obtain ⟨rfl, rfl⟩ := hp
          refine z_weq (w' := [zH, zG _ _ _ _]) rfl ?_
          refine z_seq (S' := zi _ :: _) rfl ?_
          refine z_iload F dX6_about_93 rfl ?_
          refine z_icmp_leN F (by omega) (by omega) (tgt := 111) dX6_about_95 (by decide) (fun c_95 => ?_) (fun c_95 => ?_)
          · refine z_iload F dX6_about_111 rfl ?_
            refine z_istore F dX6_about_113 (Nat.le_of_ble_eq_true rfl) ?_
            refine z_leq (L' := [_, _, _, _, _, _]) rfl ?_
            refine z_iincN F 1 dX6_about_115 rfl rfl ?_
            refine z_leq (L' := [_, _, _, _, _, _]) rfl ?_
            refine z_goto F (tgt := 45) dX6_about_118 (by decide) ?_
            refine z_loc [some (zr 1 0), some (zi (nI j)), some (zi (nI x)), some (zi (nI (mnD f (k + 1)))), some (zi (nI (mxD f (k + 1)))), some (zi (nI (k + 1)))] ⟨rfl, rfl, rfl, ?_, ?_, rfl, trivial⟩ (ih (k + 1) (by omega) (by omega))
            · rw [show mnD f (k + 1) = min (mnD f k) (pc32 (f k)) from rfl]
              first | (rw [Nat.min_eq_right (by omega)]; done) | (rw [Nat.min_eq_left (by omega)]; done)
            · rw [show mxD f (k + 1) = max (mxD f k) (pc32 (f k)) from rfl]
              first | (rw [Nat.max_eq_right (by omega)]; done) | (rw [Nat.max_eq_left (by omega)]; done)
          · refine z_aload_n F dX6_about_98 rfl ?_
            refine z_ma F rfl 6 rfl (Nat.le_of_ble_eq_true rfl) rfl q1486 dX6_about_99 ?_
            refine z_iload F dX6_about_102 rfl ?_
            refine z_ialdGN F rfl rfl (Nat.le_of_ble_eq_true rfl) (by omega) rfl dX6_about_104 ?_
            refine z_ieq (hf k (by omega)) ?_
            refine z_callS F (c_bits (f k)) 1 rfl (lw_S q1752 q1753 q117 q1754) (by decide +kernel) ⟨Nat.le_of_ble_eq_true rfl, Nat.le_of_ble_eq_true rfl⟩ ⟨by omega, by omega⟩ [0] 2 ⟨rfl, rfl, rfl, ⟨Or.inl rfl, trivial⟩⟩ (fun h => nomatch h) (Nat.le_of_ble_eq_true rfl) ⟨⟨Or.inr trivial, Or.inr trivial, trivial⟩, rfl, rfl, rfl, Nat.le_of_ble_eq_true rfl⟩ rfl rfl dX6_about_105 (fun r_105 w_105 hp => ?_) (fun _ _ h => h.elim)
            obtain ⟨rfl, rfl⟩ := hp
            refine z_weq (w' := [zH, zG _ _ _ _]) rfl ?_
            refine z_seq (S' := zi _ :: _) rfl ?_
            refine z_goto F (tgt := 113) dX6_about_108 (by decide) ?_
            refine z_istore F dX6_about_113 (Nat.le_of_ble_eq_true rfl) ?_
            refine z_leq (L' := [_, _, _, _, _, _]) rfl ?_
            refine z_iincN F 1 dX6_about_115 rfl rfl ?_
            refine z_leq (L' := [_, _, _, _, _, _]) rfl ?_
            refine z_goto F (tgt := 45) dX6_about_118 (by decide) ?_
            refine z_loc [some (zr 1 0), some (zi (nI j)), some (zi (nI x)), some (zi (nI (mnD f (k + 1)))), some (zi (nI (mxD f (k + 1)))), some (zi (nI (k + 1)))] ⟨rfl, rfl, rfl, ?_, ?_, rfl, trivial⟩ (ih (k + 1) (by omega) (by omega))
            · rw [show mnD f (k + 1) = min (mnD f k) (pc32 (f k)) from rfl]
              first | (rw [Nat.min_eq_right (by omega)]; done) | (rw [Nat.min_eq_left (by omega)]; done)
            · rw [show mxD f (k + 1) = max (mxD f k) (pc32 (f k)) from rfl]
              first | (rw [Nat.max_eq_right (by omega)]; done) | (rw [Nat.max_eq_left (by omega)]; done)
  refine z_aload_n F dX6_about_0 rfl ?_
  refine z_iload_n F dX6_about_1 rfl ?_
  refine z_callV F (c_lays_ok _ _ _ _ j n (nI d) f hj (by omega) hn hs) 1 rfl (lw_V q1732 q1734 qs42 q117 q1735) (by decide +kernel) ⟨Nat.le_of_ble_eq_true rfl, Nat.le_of_ble_eq_true rfl⟩ ⟨by omega, by omega⟩ [0, 1] 2 ⟨rfl, rfl, rfl, ⟨Or.inl rfl, Or.inr rfl, trivial⟩⟩ (fun h => nomatch h) (Nat.le_of_ble_eq_true rfl) ⟨⟨Or.inr trivial, Or.inl rfl, trivial⟩, rfl, rfl, rfl, Nat.le_of_ble_eq_true rfl⟩ rfl zC6 (zat_G0 rfl) rfl dX6_about_2 (fun r_2 w_2 hp => ?_) (fun _ _ h => h.elim)
  obtain ⟨rfl, F1, A1, rfl, f0, f1, f2, f3⟩ := hp
  refine z_weq (w' := [zH, zG _ _ _ _]) rfl ?_
  refine z_seq (S' := zi _ :: _) rfl ?_
  refine z_if_eqB F (tgt := 30) dX6_about_5 (by decide) (fun c_5 => ?_) (fun c_5 => ?_)
  · cases c_5
  · refine z_aload_n F dX6_about_8 rfl ?_
    refine z_iload_n F dX6_about_9 rfl ?_
    refine z_if_ltN F (by omega) (tgt := 22) dX6_about_10 (by decide) (fun c_10 => ?_) (fun c_10 => ?_)
    · exact absurd c_10 (by omega)
    · refine z_iload_n F dX6_about_13 rfl ?_
      refine z_iconst F (nI 4) dX6_about_14 rfl ?_
      refine z_icmp_gtN F (by omega) (by omega) (tgt := 22) dX6_about_15 (by decide) (fun c_15 => ?_) (fun c_15 => ?_)
      · exact absurd c_15 (by omega)
      · refine z_iconstB F true dX6_about_18 rfl ?_
        refine z_goto F (tgt := 23) dX6_about_19 (by decide) ?_
        refine z_iconst F (nI 1) dX6_about_23 rfl ?_
        refine z_callV F (c_right _ _ _ _ true 1 f0 (by omega) (by omega)) 2 rfl (lw_V q1736 q1738 qs43 q117 q1739) (by decide +kernel) ⟨Nat.le_of_ble_eq_true rfl, Nat.le_of_ble_eq_true rfl⟩ ⟨by omega, by omega⟩ [0, 1] 2 ⟨rfl, rfl, rfl, ⟨Or.inl rfl, Or.inr rfl, trivial⟩⟩ (fun h => nomatch h) (Nat.le_of_ble_eq_true rfl) ⟨⟨Or.inr trivial, Or.inl rfl, trivial⟩, rfl, rfl, rfl, Nat.le_of_ble_eq_true rfl⟩ rfl zC6 (zat_G0 rfl) rfl dX6_about_24 (fun r_24 w_24 hp => ?_) (fun _ _ h => h.elim)
        obtain ⟨rfl, rfl⟩ := hp
        refine z_weq (w' := [zH, zG _ _ _ _]) rfl ?_
        refine z_seq (S' := zi _ :: _) rfl ?_
        refine z_if_neB F (tgt := 32) dX6_about_27 (by decide) (fun c_27 => ?_) (fun c_27 => ?_)
        · refine z_aload_n F dX6_about_32 rfl ?_
          refine z_callV F (c_lists F1 _ _ _ n f hn h96 f3.1 (fun k hk => f3.2.2 k (by omega))) 0 rfl (lw_V q1868 q1870 qs62 q117 q1871) (by decide +kernel) ⟨Nat.le_of_ble_eq_true rfl, Nat.le_of_ble_eq_true rfl⟩ ⟨by omega, by omega⟩ [0, 1] 2 ⟨rfl, rfl, rfl, ⟨Or.inl rfl, Or.inr rfl, trivial⟩⟩ (fun h => nomatch h) (Nat.le_of_ble_eq_true rfl) ⟨⟨Or.inr trivial, Or.inl rfl, trivial⟩, rfl, rfl, rfl, Nat.le_of_ble_eq_true rfl⟩ rfl zC6 (zat_G0 rfl) rfl dX6_about_33 (fun r_33 w_33 hp => ?_) (fun _ _ h => h.elim)
          obtain ⟨rfl, A2, rfl, a1, a2⟩ := hp
          refine z_weq (w' := [zH, zG _ _ _ _]) rfl ?_
          refine z_seq (S' := []) rfl ?_
          refine z_bipush F (nI 24) dX6_about_36 rfl ?_
          refine z_istore_n F dX6_about_38 (Nat.le_of_ble_eq_true rfl) ?_
          refine z_leq (L' := [_, _, _, _, _, _]) rfl ?_
          refine z_iconst F (nI 0) dX6_about_39 rfl ?_
          refine z_istore F dX6_about_40 (Nat.le_of_ble_eq_true rfl) ?_
          refine z_leq (L' := [_, _, _, _, _, _]) rfl ?_
          refine z_iconst F (nI 0) dX6_about_42 rfl ?_
          refine z_istore F dX6_about_43 (Nat.le_of_ble_eq_true rfl) ?_
          refine z_leq (L' := [_, _, _, _, _, _]) rfl ?_
          exact loop (upd F1 20 (nI (prs n f).length)) A2 f0 f3.1 f3.2.1 rfl (frm_upd (f1.to (l2 := [0, 4, 5, 20]) (by decide)) (by decide)) (f2.tr a1 (l2 := [6, 21, 22]) (by decide) (by decide)) (fun k hk => (congrFun (a1.at 6 rfl) k).trans (f3.2.2 k (by omega))) _ 0 (Nat.lt_succ_self _) (by omega)
        · cases c_27
theorem c_mabout_bad (F0 : Nat → Int32) (G : Nat → Int64) (A : Nat → Nat → Int32) (B : Nat → Nat → Int64) (j n d : Nat) (f : Nat → Int32) (x : Int32) (hj : j < 8) (h : nok n d f) (hs : Slt A j n (nI d) f) (hx : inB x (nI 0) (nI 4) = false) :
    zCtr yX6_about cX6_about 6 (some .int) 2 0 0 [zr 1 0, zi (nI j), zi x] [zH, zG F0 G A B] (fun r w => r = some (zi (nI 0)) ∧ ∃ F' A', w = [zH, zG F' G A' B] ∧ F' 0 = nI 1 ∧ frm [0, 4, 5] F0 F' ∧ frm [6] A A') zNx := by
  refine z_start (by decide) [some (zr 1 0), some (zi (nI j)), some (zi x), none, none, none] rfl (fun _ => Nat.le_of_ble_eq_true rfl) (fun _ => rfl) (fun X F E hno hin => ?_)
  have hn1 := h.n1
  have J : ∀ (F1 : Nat → Int32) (A1 : Nat → Nat → Int32), F1 0 = nI 0 → frm [0, 4, 5] F0 F1 → frm [6] A A1 → Z X [some (zr 1 0), some (zi (nI j)), some (zi x), none, none, none] [zi (bI false), zr 1 0] [zH, zG F1 G A1 B] 0 0 23 := by
    intro F1 A1 f0 f1 f2
    refine z_iconst F (nI 1) dX6_about_23 rfl ?_
    refine z_callV F (c_right _ _ _ _ false 1 f0 (by omega) (by omega)) 2 rfl (lw_V q1736 q1738 qs43 q117 q1739) (by decide +kernel) ⟨Nat.le_of_ble_eq_true rfl, Nat.le_of_ble_eq_true rfl⟩ ⟨by omega, by omega⟩ [0, 1] 2 ⟨rfl, rfl, rfl, ⟨Or.inl rfl, Or.inr rfl, trivial⟩⟩ (fun h => nomatch h) (Nat.le_of_ble_eq_true rfl) ⟨⟨Or.inr trivial, Or.inl rfl, trivial⟩, rfl, rfl, rfl, Nat.le_of_ble_eq_true rfl⟩ rfl zC6 (zat_G0 rfl) rfl dX6_about_24 (fun r_24 w_24 hp => ?_) (fun _ _ h => h.elim)
    obtain ⟨rfl, rfl⟩ := hp
    refine z_weq (w' := [zH, zG _ _ _ _]) rfl ?_
    refine z_seq (S' := zi _ :: _) rfl ?_
    refine z_if_neB F (tgt := 32) dX6_about_27 (by decide) (fun c_27 => ?_) (fun c_27 => ?_)
    · cases c_27
    · refine z_iconst F (nI 0) dX6_about_30 rfl ?_
      exact z_iret F E rfl dX6_about_31 (by omega) (by omega) (⟨rfl, _, A1, rfl, rfl, frm_upd f1 (by decide), f2⟩)
  refine z_aload_n F dX6_about_0 rfl ?_
  refine z_iload_n F dX6_about_1 rfl ?_
  refine z_callV F (c_lays_ok _ _ _ _ j n (nI d) f hj (by omega) h.n24 hs) 1 rfl (lw_V q1732 q1734 qs42 q117 q1735) (by decide +kernel) ⟨Nat.le_of_ble_eq_true rfl, Nat.le_of_ble_eq_true rfl⟩ ⟨by omega, by omega⟩ [0, 1] 2 ⟨rfl, rfl, rfl, ⟨Or.inl rfl, Or.inr rfl, trivial⟩⟩ (fun h => nomatch h) (Nat.le_of_ble_eq_true rfl) ⟨⟨Or.inr trivial, Or.inl rfl, trivial⟩, rfl, rfl, rfl, Nat.le_of_ble_eq_true rfl⟩ rfl zC6 (zat_G0 rfl) rfl dX6_about_2 (fun r_2 w_2 hp => ?_) (fun _ _ h => h.elim)
  obtain ⟨rfl, F1, A1, rfl, f0, f1, f2, f3⟩ := hp
  refine z_weq (w' := [zH, zG _ _ _ _]) rfl ?_
  refine z_seq (S' := zi _ :: _) rfl ?_
  refine z_if_eqB F (tgt := 30) dX6_about_5 (by decide) (fun c_5 => ?_) (fun c_5 => ?_)
  · cases c_5
  · refine z_aload_n F dX6_about_8 rfl ?_
    refine z_iload_n F dX6_about_9 rfl ?_
    refine z_if_lt F (tgt := 22) dX6_about_10 (by decide) (fun c_10 => ?_) (fun c_10 => ?_)
    · refine z_iconstB F false dX6_about_22 rfl ?_
      exact J F1 A1 f0 f1 f2
    · refine z_iload_n F dX6_about_13 rfl ?_
      refine z_iconst F (nI 4) dX6_about_14 rfl ?_
      refine z_icmp_gt F (tgt := 22) dX6_about_15 (by decide) (fun c_15 => ?_) (fun c_15 => ?_)
      · refine z_iconstB F false dX6_about_22 rfl ?_
        exact J F1 A1 f0 f1 f2
      · exact (inB_ff hx c_10 (Int32.not_lt.mpr (Int32.not_lt.mp c_15))).elim
theorem c_mlineAt_ok (F0 : Nat → Int32) (G : Nat → Int64) (A : Nat → Nat → Int32) (B : Nat → Nat → Int64) (j n d : Nat) (f : Nat → Int32) (x : Nat) (hj : j < 8) (h : nok n d f) (hs : Slt A j n (nI d) f) (hx : x < (prs n f).length) :
    zCtr yX6_lineAt cX6_lineAt 3 (some .int) 2 0 0 [zr 1 0, zi (nI j), zi (nI x)] [zH, zG F0 G A B] (fun r w => r = some (zi (nI (pcode ((prs n f).getD x (0, 0))))) ∧ ∃ F' A', w = [zH, zG F' G A' B] ∧ F' 0 = nI 0 ∧ frm [0, 4, 5, 20] F0 F' ∧ frm [6, 21, 22] A A') zNx := by
  refine z_start (by decide) [some (zr 1 0), some (zi (nI j)), some (zi (nI x))] rfl (fun _ => Nat.le_of_ble_eq_true rfl) (fun _ => rfl) (fun X F E hno hin => ?_)
  have hn1 := h.n1
  have hn := h.n24
  have h96 := prs_96 h
  refine z_aload_n F dX6_lineAt_0 rfl ?_
  refine z_iload_n F dX6_lineAt_1 rfl ?_
  refine z_callV F (c_lays_ok _ _ _ _ j n (nI d) f hj (by omega) hn hs) 1 rfl (lw_V q1732 q1734 qs42 q117 q1735) (by decide +kernel) ⟨Nat.le_of_ble_eq_true rfl, Nat.le_of_ble_eq_true rfl⟩ ⟨by omega, by omega⟩ [0, 1] 2 ⟨rfl, rfl, rfl, ⟨Or.inl rfl, Or.inr rfl, trivial⟩⟩ (fun h => nomatch h) (Nat.le_of_ble_eq_true rfl) ⟨⟨Or.inr trivial, Or.inl rfl, trivial⟩, rfl, rfl, rfl, Nat.le_of_ble_eq_true rfl⟩ rfl zC6 (zat_G0 rfl) rfl dX6_lineAt_2 (fun r_2 w_2 hp => ?_) (fun _ _ h => h.elim)
  obtain ⟨rfl, F1, A1, rfl, f0, f1, f2, f3⟩ := hp
  refine z_weq (w' := [zH, zG _ _ _ _]) rfl ?_
  refine z_seq (S' := zi _ :: _) rfl ?_
  refine z_if_neB F (tgt := 10) dX6_lineAt_5 (by decide) (fun c_5 => ?_) (fun c_5 => ?_)
  · refine z_aload_n F dX6_lineAt_10 rfl ?_
    refine z_callV F (c_lists F1 _ _ _ n f hn h96 f3.1 (fun k hk => f3.2.2 k (by omega))) 0 rfl (lw_V q1868 q1870 qs62 q117 q1871) (by decide +kernel) ⟨Nat.le_of_ble_eq_true rfl, Nat.le_of_ble_eq_true rfl⟩ ⟨by omega, by omega⟩ [0, 1] 2 ⟨rfl, rfl, rfl, ⟨Or.inl rfl, Or.inr rfl, trivial⟩⟩ (fun h => nomatch h) (Nat.le_of_ble_eq_true rfl) ⟨⟨Or.inr trivial, Or.inl rfl, trivial⟩, rfl, rfl, rfl, Nat.le_of_ble_eq_true rfl⟩ rfl zC6 (zat_G0 rfl) rfl dX6_lineAt_11 (fun r_11 w_11 hp => ?_) (fun _ _ h => h.elim)
    obtain ⟨rfl, A2, rfl, a1, a2⟩ := hp
    refine z_weq (w' := [zH, zG _ _ _ _]) rfl ?_
    refine z_seq (S' := []) rfl ?_
    refine z_aload_n F dX6_lineAt_14 rfl ?_
    refine z_iload_n F dX6_lineAt_15 rfl ?_
    refine z_if_ltN F (by omega) (tgt := 31) dX6_lineAt_16 (by decide) (fun c_16 => ?_) (fun c_16 => ?_)
    · exact absurd c_16 (by omega)
    · refine z_iload_n F dX6_lineAt_19 rfl ?_
      refine z_aload_n F dX6_lineAt_20 rfl ?_
      refine z_mi F rfl 20 rfl (Nat.le_of_ble_eq_true rfl) rfl q1500 dX6_lineAt_21 ?_
      refine z_ieq ((rfl : upd F1 20 (nI (prs n f).length) 20 = nI (prs n f).length)) ?_
      refine z_icmp_geN F (by omega) (by omega) (tgt := 31) dX6_lineAt_24 (by decide) (fun c_24 => ?_) (fun c_24 => ?_)
      · exact absurd c_24 (by omega)
      · refine z_iconstB F true dX6_lineAt_27 rfl ?_
        refine z_goto F (tgt := 32) dX6_lineAt_28 (by decide) ?_
        refine z_iconst F (nI 1) dX6_lineAt_32 rfl ?_
        refine z_callV F (c_right (upd F1 20 (nI (prs n f).length)) _ _ _ true 1 f0 (by omega) (by omega)) 2 rfl (lw_V q1736 q1738 qs43 q117 q1739) (by decide +kernel) ⟨Nat.le_of_ble_eq_true rfl, Nat.le_of_ble_eq_true rfl⟩ ⟨by omega, by omega⟩ [0, 1] 2 ⟨rfl, rfl, rfl, ⟨Or.inl rfl, Or.inr rfl, trivial⟩⟩ (fun h => nomatch h) (Nat.le_of_ble_eq_true rfl) ⟨⟨Or.inr trivial, Or.inl rfl, trivial⟩, rfl, rfl, rfl, Nat.le_of_ble_eq_true rfl⟩ rfl zC6 (zat_G0 rfl) rfl dX6_lineAt_33 (fun r_33 w_33 hp => ?_) (fun _ _ h => h.elim)
        obtain ⟨rfl, rfl⟩ := hp
        refine z_weq (w' := [zH, zG _ _ _ _]) rfl ?_
        refine z_seq (S' := zi _ :: _) rfl ?_
        refine z_if_neB F (tgt := 41) dX6_lineAt_36 (by decide) (fun c_36 => ?_) (fun c_36 => ?_)
        · refine z_bipush F (nI 32) dX6_lineAt_41 rfl ?_
          refine z_aload_n F dX6_lineAt_43 rfl ?_
          refine z_ma F rfl 21 rfl (Nat.le_of_ble_eq_true rfl) rfl q1501 dX6_lineAt_44 ?_
          refine z_iload_n F dX6_lineAt_47 rfl ?_
          refine z_ialdGN F rfl rfl (Nat.le_of_ble_eq_true rfl) (by omega) rfl dX6_lineAt_48 ?_
          refine z_ieq ((a2 x hx).1) ?_
          refine z_imulN F dX6_lineAt_49 ?_
          refine z_aload_n F dX6_lineAt_50 rfl ?_
          refine z_ma F rfl 22 rfl (Nat.le_of_ble_eq_true rfl) rfl q1502 dX6_lineAt_51 ?_
          refine z_iload_n F dX6_lineAt_54 rfl ?_
          refine z_ialdGN F rfl rfl (Nat.le_of_ble_eq_true rfl) (by omega) rfl dX6_lineAt_55 ?_
          refine z_ieq ((a2 x hx).2) ?_
          refine z_iaddN F dX6_lineAt_56 ?_
          exact z_iret F E rfl dX6_lineAt_57 (by omega) (by omega) (⟨rfl, _, A2, rfl, f0, frm_upd (f1.to (by decide)) (by decide), f2.tr a1 (by decide) (by decide)⟩)
        · cases c_36
  · cases c_5
theorem c_mlineAt_bad (F0 : Nat → Int32) (G : Nat → Int64) (A : Nat → Nat → Int32) (B : Nat → Nat → Int64) (j n d : Nat) (f : Nat → Int32) (x : Int32) (hj : j < 8) (h : nok n d f) (hs : Slt A j n (nI d) f) (hx : ∀ i, i < (prs n f).length → x ≠ nI i) :
    zCtr yX6_lineAt cX6_lineAt 3 (some .int) 2 0 0 [zr 1 0, zi (nI j), zi x] [zH, zG F0 G A B] (fun r w => r = some (zi (nI 0)) ∧ ∃ F' A', w = [zH, zG F' G A' B] ∧ F' 0 = nI 1 ∧ frm [0, 4, 5, 20] F0 F' ∧ frm [6, 21, 22] A A') zNx := by
  refine z_start (by decide) [some (zr 1 0), some (zi (nI j)), some (zi x)] rfl (fun _ => Nat.le_of_ble_eq_true rfl) (fun _ => rfl) (fun X F E hno hin => ?_)
  have hn1 := h.n1
  have hn := h.n24
  have h96 := prs_96 h
  have J : ∀ (F1 : Nat → Int32) (A1 : Nat → Nat → Int32), F1 0 = nI 0 → frm [0, 4, 5, 20] F0 F1 → frm [6, 21, 22] A A1 → Z X [some (zr 1 0), some (zi (nI j)), some (zi x)] [zi (bI false), zr 1 0] [zH, zG F1 G A1 B] 0 0 32 := by
    intro F1 A1 f0 f1 f2
    refine z_iconst F (nI 1) dX6_lineAt_32 rfl ?_
    refine z_callV F (c_right _ _ _ _ false 1 f0 (by omega) (by omega)) 2 rfl (lw_V q1736 q1738 qs43 q117 q1739) (by decide +kernel) ⟨Nat.le_of_ble_eq_true rfl, Nat.le_of_ble_eq_true rfl⟩ ⟨by omega, by omega⟩ [0, 1] 2 ⟨rfl, rfl, rfl, ⟨Or.inl rfl, Or.inr rfl, trivial⟩⟩ (fun h => nomatch h) (Nat.le_of_ble_eq_true rfl) ⟨⟨Or.inr trivial, Or.inl rfl, trivial⟩, rfl, rfl, rfl, Nat.le_of_ble_eq_true rfl⟩ rfl zC6 (zat_G0 rfl) rfl dX6_lineAt_33 (fun r_33 w_33 hp => ?_) (fun _ _ h => h.elim)
    obtain ⟨rfl, rfl⟩ := hp
    refine z_weq (w' := [zH, zG _ _ _ _]) rfl ?_
    refine z_seq (S' := zi _ :: _) rfl ?_
    refine z_if_neB F (tgt := 41) dX6_lineAt_36 (by decide) (fun c_36 => ?_) (fun c_36 => ?_)
    · cases c_36
    · refine z_iconst F (nI 0) dX6_lineAt_39 rfl ?_
      exact z_iret F E rfl dX6_lineAt_40 (by omega) (by omega) (⟨rfl, _, A1, rfl, rfl, frm_upd f1 (by decide), f2⟩)
  refine z_aload_n F dX6_lineAt_0 rfl ?_
  refine z_iload_n F dX6_lineAt_1 rfl ?_
  refine z_callV F (c_lays_ok _ _ _ _ j n (nI d) f hj (by omega) hn hs) 1 rfl (lw_V q1732 q1734 qs42 q117 q1735) (by decide +kernel) ⟨Nat.le_of_ble_eq_true rfl, Nat.le_of_ble_eq_true rfl⟩ ⟨by omega, by omega⟩ [0, 1] 2 ⟨rfl, rfl, rfl, ⟨Or.inl rfl, Or.inr rfl, trivial⟩⟩ (fun h => nomatch h) (Nat.le_of_ble_eq_true rfl) ⟨⟨Or.inr trivial, Or.inl rfl, trivial⟩, rfl, rfl, rfl, Nat.le_of_ble_eq_true rfl⟩ rfl zC6 (zat_G0 rfl) rfl dX6_lineAt_2 (fun r_2 w_2 hp => ?_) (fun _ _ h => h.elim)
  obtain ⟨rfl, F1, A1, rfl, f0, f1, f2, f3⟩ := hp
  refine z_weq (w' := [zH, zG _ _ _ _]) rfl ?_
  refine z_seq (S' := zi _ :: _) rfl ?_
  refine z_if_neB F (tgt := 10) dX6_lineAt_5 (by decide) (fun c_5 => ?_) (fun c_5 => ?_)
  · refine z_aload_n F dX6_lineAt_10 rfl ?_
    refine z_callV F (c_lists F1 _ _ _ n f hn h96 f3.1 (fun k hk => f3.2.2 k (by omega))) 0 rfl (lw_V q1868 q1870 qs62 q117 q1871) (by decide +kernel) ⟨Nat.le_of_ble_eq_true rfl, Nat.le_of_ble_eq_true rfl⟩ ⟨by omega, by omega⟩ [0, 1] 2 ⟨rfl, rfl, rfl, ⟨Or.inl rfl, Or.inr rfl, trivial⟩⟩ (fun h => nomatch h) (Nat.le_of_ble_eq_true rfl) ⟨⟨Or.inr trivial, Or.inl rfl, trivial⟩, rfl, rfl, rfl, Nat.le_of_ble_eq_true rfl⟩ rfl zC6 (zat_G0 rfl) rfl dX6_lineAt_11 (fun r_11 w_11 hp => ?_) (fun _ _ h => h.elim)
    obtain ⟨rfl, A2, rfl, a1, a2⟩ := hp
    refine z_weq (w' := [zH, zG _ _ _ _]) rfl ?_
    refine z_seq (S' := []) rfl ?_
    refine z_aload_n F dX6_lineAt_14 rfl ?_
    refine z_iload_n F dX6_lineAt_15 rfl ?_
    refine z_if_lt F (tgt := 31) dX6_lineAt_16 (by decide) (fun c_16 => ?_) (fun c_16 => ?_)
    · refine z_iconstB F false dX6_lineAt_31 rfl ?_
      exact J _ A2 f0 (frm_upd (f1.to (l2 := [0, 4, 5, 20]) (by decide)) (by decide)) (f2.tr a1 (l2 := [6, 21, 22]) (by decide) (by decide))
    · refine z_iload_n F dX6_lineAt_19 rfl ?_
      refine z_aload_n F dX6_lineAt_20 rfl ?_
      refine z_mi F rfl 20 rfl (Nat.le_of_ble_eq_true rfl) rfl q1500 dX6_lineAt_21 ?_
      refine z_ieq ((rfl : upd F1 20 (nI (prs n f).length) 20 = nI (prs n f).length)) ?_
      refine z_icmp_ge F (tgt := 31) dX6_lineAt_24 (by decide) (fun c_24 => ?_) (fun c_24 => ?_)
      · refine z_iconstB F false dX6_lineAt_31 rfl ?_
        exact J _ A2 f0 (frm_upd (f1.to (l2 := [0, 4, 5, 20]) (by decide)) (by decide)) (f2.tr a1 (l2 := [6, 21, 22]) (by decide) (by decide))
      · obtain ⟨i, hi, e⟩ := nI_of c_16
        exact absurd e (hx i ((nI_ltI hi (by omega)).mp (by rw [← e]; exact Int32.not_le.mp c_24)))
  · cases c_5
theorem c_mfar_ok (F0 : Nat → Int32) (G : Nat → Int64) (A : Nat → Nat → Int32) (B : Nat → Nat → Int64) (j n d : Nat) (f : Nat → Int32) (x : Nat) (hj : j < 8) (h : nok n d f) (hs : Slt A j n (nI d) f) (hx : x < 6) :
    zCtr yX6_far cX6_far 3 (some .int) 3 0 0 [zr 1 0, zi (nI j), zi (nI x)] [zH, zG F0 G A B] (fun r w => r = some (zi (farV n f x)) ∧ ∃ F' A', w = [zH, zG F' G A' B] ∧ F' 0 = nI 0 ∧ frm [0, 4, 5, 20, 24, 25] F0 F' ∧ frm [6, 21, 22, 23, 26, 27, 28] A A') zNx := by
  refine z_start (by decide) [some (zr 1 0), some (zi (nI j)), some (zi (nI x))] rfl (fun _ => Nat.le_of_ble_eq_true rfl) (fun _ => rfl) (fun X F E hno hin => ?_)
  have hn1 := h.n1
  have hn := h.n24
  have h96 := prs_96 h
  have hall : ∀ i, i < 32 → bt (allB n) i = true → i < n := fun i _ h => al_lt hn i h
  refine z_aload_n F dX6_far_0 rfl ?_
  refine z_iload_n F dX6_far_1 rfl ?_
  refine z_callV F (c_lays_ok _ _ _ _ j n (nI d) f hj (by omega) hn hs) 1 rfl (lw_V q1732 q1734 qs42 q117 q1735) (by decide +kernel) ⟨Nat.le_of_ble_eq_true rfl, Nat.le_of_ble_eq_true rfl⟩ ⟨by omega, by omega⟩ [0, 1] 2 ⟨rfl, rfl, rfl, ⟨Or.inl rfl, Or.inr rfl, trivial⟩⟩ (fun h => nomatch h) (Nat.le_of_ble_eq_true rfl) ⟨⟨Or.inr trivial, Or.inl rfl, trivial⟩, rfl, rfl, rfl, Nat.le_of_ble_eq_true rfl⟩ rfl zC6 (zat_G0 rfl) rfl dX6_far_2 (fun r_2 w_2 hp => ?_) (fun _ _ h => h.elim)
  obtain ⟨rfl, F1, A1, rfl, f0, f1, f2, f3⟩ := hp
  have hfn := (fun (k : Nat) (hk : k < n) => f3.2.2 k (by omega))
  refine z_weq (w' := [zH, zG _ _ _ _]) rfl ?_
  refine z_seq (S' := zi _ :: _) rfl ?_
  refine z_if_eqB F (tgt := 30) dX6_far_5 (by decide) (fun c_5 => ?_) (fun c_5 => ?_)
  · cases c_5
  · refine z_aload_n F dX6_far_8 rfl ?_
    refine z_iload_n F dX6_far_9 rfl ?_
    refine z_if_ltN F (by omega) (tgt := 22) dX6_far_10 (by decide) (fun c_10 => ?_) (fun c_10 => ?_)
    · exact absurd c_10 (by omega)
    · refine z_iload_n F dX6_far_13 rfl ?_
      refine z_iconst F (nI 5) dX6_far_14 rfl ?_
      refine z_icmp_gtN F (by omega) (by omega) (tgt := 22) dX6_far_15 (by decide) (fun c_15 => ?_) (fun c_15 => ?_)
      · exact absurd c_15 (by omega)
      · refine z_iconstB F true dX6_far_18 rfl ?_
        refine z_goto F (tgt := 23) dX6_far_19 (by decide) ?_
        refine z_iconst F (nI 1) dX6_far_23 rfl ?_
        refine z_callV F (c_right _ _ _ _ true 1 f0 (by omega) (by omega)) 2 rfl (lw_V q1736 q1738 qs43 q117 q1739) (by decide +kernel) ⟨Nat.le_of_ble_eq_true rfl, Nat.le_of_ble_eq_true rfl⟩ ⟨by omega, by omega⟩ [0, 1] 2 ⟨rfl, rfl, rfl, ⟨Or.inl rfl, Or.inr rfl, trivial⟩⟩ (fun h => nomatch h) (Nat.le_of_ble_eq_true rfl) ⟨⟨Or.inr trivial, Or.inl rfl, trivial⟩, rfl, rfl, rfl, Nat.le_of_ble_eq_true rfl⟩ rfl zC6 (zat_G0 rfl) rfl dX6_far_24 (fun r_24 w_24 hp => ?_) (fun _ _ h => h.elim)
        obtain ⟨rfl, rfl⟩ := hp
        refine z_weq (w' := [zH, zG _ _ _ _]) rfl ?_
        refine z_seq (S' := zi _ :: _) rfl ?_
        refine z_if_neB F (tgt := 32) dX6_far_27 (by decide) (fun c_27 => ?_) (fun c_27 => ?_)
        · refine z_iload_n F dX6_far_32 rfl ?_
          refine z_iconst F (nI 2) dX6_far_33 rfl ?_
          refine z_icmp_neN F (by omega) (by omega) (tgt := 42) dX6_far_34 (by decide) (fun c_34 => ?_) (fun c_34 => ?_)
          · refine z_iload_n F dX6_far_42 rfl ?_
            refine z_iconst F (nI 3) dX6_far_43 rfl ?_
            refine z_icmp_neN F (by omega) (by omega) (tgt := 52) dX6_far_44 (by decide) (fun c_44 => ?_) (fun c_44 => ?_)
            · refine z_iload_n F dX6_far_52 rfl ?_
              refine z_iconst F (nI 4) dX6_far_53 rfl ?_
              refine z_icmp_neN F (by omega) (by omega) (tgt := 62) dX6_far_54 (by decide) (fun c_54 => ?_) (fun c_54 => ?_)
              · refine z_iload_n F dX6_far_62 rfl ?_
                refine z_iconst F (nI 5) dX6_far_63 rfl ?_
                refine z_icmp_neN F (by omega) (by omega) (tgt := 72) dX6_far_64 (by decide) (fun c_64 => ?_) (fun c_64 => ?_)
                · refine z_aload_n F dX6_far_72 rfl ?_
                  refine z_aload_n F dX6_far_73 rfl ?_
                  refine z_callV F (c_mall F1 _ _ _ n hn f3.1) 0 rfl (lw_V q1880 q1882 qs63 q117 q1883) (by decide +kernel) ⟨Nat.le_of_ble_eq_true rfl, Nat.le_of_ble_eq_true rfl⟩ ⟨by omega, by omega⟩ [0, 1] 2 ⟨rfl, rfl, rfl, ⟨Or.inl rfl, Or.inr rfl, trivial⟩⟩ (fun h => nomatch h) (Nat.le_of_ble_eq_true rfl) ⟨⟨Or.inr trivial, Or.inl rfl, trivial⟩, rfl, rfl, rfl, Nat.le_of_ble_eq_true rfl⟩ rfl zC6 (zat_G0 rfl) rfl dX6_far_74 (fun r_74 w_74 hp => ?_) (fun _ _ h => h.elim)
                  obtain ⟨rfl, rfl⟩ := hp
                  refine z_weq (w' := [zH, zG _ _ _ _]) rfl ?_
                  refine z_seq (S' := zi _ :: _) rfl ?_
                  refine z_callV F (c_isWhole F1 _ _ _ n f (allB n) hn hall f3.1 hfn) 1 rfl (lw_V q1920 q1922 qs72 q117 q1923) (by decide +kernel) ⟨Nat.le_of_ble_eq_true rfl, Nat.le_of_ble_eq_true rfl⟩ ⟨by omega, by omega⟩ [0, 1] 2 ⟨rfl, rfl, rfl, ⟨Or.inl rfl, Or.inr rfl, trivial⟩⟩ (fun h => nomatch h) (Nat.le_of_ble_eq_true rfl) ⟨⟨Or.inr trivial, Or.inl rfl, trivial⟩, rfl, rfl, rfl, Nat.le_of_ble_eq_true rfl⟩ rfl zC6 (zat_G0 rfl) rfl dX6_far_77 (fun r_77 w_77 hp => ?_) (fun _ _ h => h.elim)
                  obtain ⟨rfl, F2, A2, rfl, g1, g2, g3⟩ := hp
                  refine z_weq (w' := [zH, zG _ _ _ _]) rfl ?_
                  refine z_seq (S' := zi _ :: _) rfl ?_
                  refine z_if_neB F (tgt := 85) dX6_far_80 (by decide) (fun c_80 => ?_) (fun c_80 => ?_)
                  · obtain ⟨p, hq⟩ : ∃ p, mw n f (allB n) n = some p := by
                      cases hq : mw n f (allB n) n with
                      | none => rw [hq] at c_80; cases c_80
                      | some p => exact ⟨p, rfl⟩
                    obtain ⟨k1, k2⟩ := g3 p hq
                    obtain ⟨v1, v2⟩ := farV_01 h hq
                    refine z_iload_n F dX6_far_85 rfl ?_
                    refine z_if_neN F (by omega) (tgt := 96) dX6_far_86 (by decide) (fun c_86 => ?_) (fun c_86 => ?_)
                    · refine z_aload_n F dX6_far_96 rfl ?_
                      refine z_mi F rfl 25 rfl (Nat.le_of_ble_eq_true rfl) rfl q1505 dX6_far_97 ?_
                      exact z_iret F E rfl dX6_far_100 (by omega) (by omega) (⟨by rw [show x = 1 by omega, v2]; exact congrArg (fun z => some (zi z)) k2, F2, A2, rfl, (g1.at 0 rfl).trans f0, f1.tr g1 (by decide) (by decide), f2.tr g2 (by decide) (by decide)⟩)
                    · refine z_aload_n F dX6_far_89 rfl ?_
                      refine z_mi F rfl 24 rfl (Nat.le_of_ble_eq_true rfl) rfl q1504 dX6_far_90 ?_
                      refine z_goto F (tgt := 100) dX6_far_93 (by decide) ?_
                      exact z_iret F E rfl dX6_far_100 (by omega) (by omega) (⟨by rw [c_86, v1]; exact congrArg (fun z => some (zi z)) k1, F2, A2, rfl, (g1.at 0 rfl).trans f0, f1.tr g1 (by decide) (by decide), f2.tr g2 (by decide) (by decide)⟩)
                  · refine z_iconst F (-1) dX6_far_83 rfl ?_
                    exact z_iret F E rfl dX6_far_84 (by omega) (by omega) (⟨by
  have e : mw n f (allB n) n = none := by
    cases hq : mw n f (allB n) n with
    | none => rfl
    | some p => rw [hq] at c_80; cases c_80
  rw [farV_01n h e (by omega)], F2, A2, rfl, (g1.at 0 rfl).trans f0, f1.tr g1 (by decide) (by decide), f2.tr g2 (by decide) (by decide)⟩)
                · refine z_aload_n F dX6_far_67 rfl ?_
                  refine z_callV F (c_mprice F1 _ _ _ n f hn f3.1 hfn) 0 rfl (lw_V q1916 q1918 qs71 q117 q1919) (by decide +kernel) ⟨Nat.le_of_ble_eq_true rfl, Nat.le_of_ble_eq_true rfl⟩ ⟨by omega, by omega⟩ [0, 1] 2 ⟨rfl, rfl, rfl, ⟨Or.inl rfl, Or.inr rfl, trivial⟩⟩ (fun h => nomatch h) (Nat.le_of_ble_eq_true rfl) ⟨⟨Or.inr trivial, Or.inl rfl, trivial⟩, rfl, rfl, rfl, Nat.le_of_ble_eq_true rfl⟩ rfl zC6 (zat_G0 rfl) rfl dX6_far_68 (fun r_68 w_68 hp => ?_) (fun _ _ h => h.elim)
                  obtain ⟨rfl, F2, A2, rfl, g1, g2⟩ := hp
                  refine z_weq (w' := [zH, zG _ _ _ _]) rfl ?_
                  refine z_seq (S' := zi _ :: _) rfl ?_
                  exact z_iret F E rfl dX6_far_71 (by omega) (by omega) (⟨by rw [c_64, farV_5, mpr_eq hn (fun a b ha hb => h.sym ha hb)], F2, A2, rfl, (g1.at 0 rfl).trans f0, f1.tr g1 (by decide) (by decide), f2.tr g2 (by decide) (by decide)⟩)
              · refine z_aload_n F dX6_far_57 rfl ?_
                refine z_callV F (c_mthinK F1 _ _ _ n f hn hn1 f3.1 hfn) 0 rfl (lw_V q1908 q1910 qs69 q117 q1911) (by decide +kernel) ⟨Nat.le_of_ble_eq_true rfl, Nat.le_of_ble_eq_true rfl⟩ ⟨by omega, by omega⟩ [0, 1] 2 ⟨rfl, rfl, rfl, ⟨Or.inl rfl, Or.inr rfl, trivial⟩⟩ (fun h => nomatch h) (Nat.le_of_ble_eq_true rfl) ⟨⟨Or.inr trivial, Or.inl rfl, trivial⟩, rfl, rfl, rfl, Nat.le_of_ble_eq_true rfl⟩ rfl zC6 (zat_G0 rfl) rfl dX6_far_58 (fun r_58 w_58 hp => ?_) (fun _ _ h => h.elim)
                obtain ⟨rfl, A2, rfl, g2⟩ := hp
                refine z_weq (w' := [zH, zG _ _ _ _]) rfl ?_
                refine z_seq (S' := zi _ :: _) rfl ?_
                exact z_iret F E rfl dX6_far_61 (by omega) (by omega) (⟨by rw [c_54, farV_4], F1, A2, rfl, f0, f1.to (by decide), f2.tr g2 (by decide) (by decide)⟩)
            · refine z_aload_n F dX6_far_47 rfl ?_
              refine z_callV F (c_mthin F1 _ _ _ n f hn hn1 f3.1 hfn) 0 rfl (lw_V q1896 q1898 qs66 q117 q1899) (by decide +kernel) ⟨Nat.le_of_ble_eq_true rfl, Nat.le_of_ble_eq_true rfl⟩ ⟨by omega, by omega⟩ [0, 1] 2 ⟨rfl, rfl, rfl, ⟨Or.inl rfl, Or.inr rfl, trivial⟩⟩ (fun h => nomatch h) (Nat.le_of_ble_eq_true rfl) ⟨⟨Or.inr trivial, Or.inl rfl, trivial⟩, rfl, rfl, rfl, Nat.le_of_ble_eq_true rfl⟩ rfl zC6 (zat_G0 rfl) rfl dX6_far_48 (fun r_48 w_48 hp => ?_) (fun _ _ h => h.elim)
              obtain ⟨rfl, A2, rfl, g2⟩ := hp
              refine z_weq (w' := [zH, zG _ _ _ _]) rfl ?_
              refine z_seq (S' := zi _ :: _) rfl ?_
              exact z_iret F E rfl dX6_far_51 (by omega) (by omega) (⟨by rw [c_44, farV_3m hn1 hn], F1, A2, rfl, f0, f1.to (by decide), f2.tr g2 (by decide) (by decide)⟩)
          · refine z_aload_n F dX6_far_37 rfl ?_
            refine z_callV F (c_mgirth F1 _ _ _ n d f h f3.1 f3.2.2) 0 rfl (lw_V q1892 q1894 qs65 q117 q1895) (by decide +kernel) ⟨Nat.le_of_ble_eq_true rfl, Nat.le_of_ble_eq_true rfl⟩ ⟨by omega, by omega⟩ [0, 1] 2 ⟨rfl, rfl, rfl, ⟨Or.inl rfl, Or.inr rfl, trivial⟩⟩ (fun h => nomatch h) (Nat.le_of_ble_eq_true rfl) ⟨⟨Or.inr trivial, Or.inl rfl, trivial⟩, rfl, rfl, rfl, Nat.le_of_ble_eq_true rfl⟩ rfl zC6 (zat_G0 rfl) rfl dX6_far_38 (fun r_38 w_38 hp => ?_) (fun _ _ h => h.elim)
            obtain ⟨rfl, F2, A2, rfl, g1, g2⟩ := hp
            refine z_weq (w' := [zH, zG _ _ _ _]) rfl ?_
            refine z_seq (S' := zi _ :: _) rfl ?_
            exact z_iret F E rfl dX6_far_41 (by omega) (by omega) (⟨by rw [c_34, farV_2], F2, A2, rfl, (g1.at 0 rfl).trans f0, f1.tr g1 (by decide) (by decide), f2.tr g2 (by decide) (by decide)⟩)
        · cases c_27
theorem c_mfar_bad (F0 : Nat → Int32) (G : Nat → Int64) (A : Nat → Nat → Int32) (B : Nat → Nat → Int64) (j n d : Nat) (f : Nat → Int32) (x : Int32) (hj : j < 8) (h : nok n d f) (hs : Slt A j n (nI d) f) (hx : inB x (nI 0) (nI 5) = false) :
    zCtr yX6_far cX6_far 3 (some .int) 3 0 0 [zr 1 0, zi (nI j), zi x] [zH, zG F0 G A B] (fun r w => r = some (zi (nI 0)) ∧ ∃ F' A', w = [zH, zG F' G A' B] ∧ F' 0 = nI 1 ∧ frm [0, 4, 5] F0 F' ∧ frm [6] A A') zNx := by
  refine z_start (by decide) [some (zr 1 0), some (zi (nI j)), some (zi x)] rfl (fun _ => Nat.le_of_ble_eq_true rfl) (fun _ => rfl) (fun X F E hno hin => ?_)
  have hn1 := h.n1
  have J : ∀ (F1 : Nat → Int32) (A1 : Nat → Nat → Int32), F1 0 = nI 0 → frm [0, 4, 5] F0 F1 → frm [6] A A1 → Z X [some (zr 1 0), some (zi (nI j)), some (zi x)] [zi (bI false), zr 1 0] [zH, zG F1 G A1 B] 0 0 23 := by
    intro F1 A1 f0 f1 f2
    refine z_iconst F (nI 1) dX6_far_23 rfl ?_
    refine z_callV F (c_right _ _ _ _ false 1 f0 (by omega) (by omega)) 2 rfl (lw_V q1736 q1738 qs43 q117 q1739) (by decide +kernel) ⟨Nat.le_of_ble_eq_true rfl, Nat.le_of_ble_eq_true rfl⟩ ⟨by omega, by omega⟩ [0, 1] 2 ⟨rfl, rfl, rfl, ⟨Or.inl rfl, Or.inr rfl, trivial⟩⟩ (fun h => nomatch h) (Nat.le_of_ble_eq_true rfl) ⟨⟨Or.inr trivial, Or.inl rfl, trivial⟩, rfl, rfl, rfl, Nat.le_of_ble_eq_true rfl⟩ rfl zC6 (zat_G0 rfl) rfl dX6_far_24 (fun r_24 w_24 hp => ?_) (fun _ _ h => h.elim)
    obtain ⟨rfl, rfl⟩ := hp
    refine z_weq (w' := [zH, zG _ _ _ _]) rfl ?_
    refine z_seq (S' := zi _ :: _) rfl ?_
    refine z_if_neB F (tgt := 32) dX6_far_27 (by decide) (fun c_27 => ?_) (fun c_27 => ?_)
    · cases c_27
    · refine z_iconst F (nI 0) dX6_far_30 rfl ?_
      exact z_iret F E rfl dX6_far_31 (by omega) (by omega) (⟨rfl, _, A1, rfl, rfl, frm_upd f1 (by decide), f2⟩)
  refine z_aload_n F dX6_far_0 rfl ?_
  refine z_iload_n F dX6_far_1 rfl ?_
  refine z_callV F (c_lays_ok _ _ _ _ j n (nI d) f hj (by omega) h.n24 hs) 1 rfl (lw_V q1732 q1734 qs42 q117 q1735) (by decide +kernel) ⟨Nat.le_of_ble_eq_true rfl, Nat.le_of_ble_eq_true rfl⟩ ⟨by omega, by omega⟩ [0, 1] 2 ⟨rfl, rfl, rfl, ⟨Or.inl rfl, Or.inr rfl, trivial⟩⟩ (fun h => nomatch h) (Nat.le_of_ble_eq_true rfl) ⟨⟨Or.inr trivial, Or.inl rfl, trivial⟩, rfl, rfl, rfl, Nat.le_of_ble_eq_true rfl⟩ rfl zC6 (zat_G0 rfl) rfl dX6_far_2 (fun r_2 w_2 hp => ?_) (fun _ _ h => h.elim)
  obtain ⟨rfl, F1, A1, rfl, f0, f1, f2, f3⟩ := hp
  refine z_weq (w' := [zH, zG _ _ _ _]) rfl ?_
  refine z_seq (S' := zi _ :: _) rfl ?_
  refine z_if_eqB F (tgt := 30) dX6_far_5 (by decide) (fun c_5 => ?_) (fun c_5 => ?_)
  · cases c_5
  · refine z_aload_n F dX6_far_8 rfl ?_
    refine z_iload_n F dX6_far_9 rfl ?_
    refine z_if_lt F (tgt := 22) dX6_far_10 (by decide) (fun c_10 => ?_) (fun c_10 => ?_)
    · refine z_iconstB F false dX6_far_22 rfl ?_
      exact J F1 A1 f0 f1 f2
    · refine z_iload_n F dX6_far_13 rfl ?_
      refine z_iconst F (nI 5) dX6_far_14 rfl ?_
      refine z_icmp_gt F (tgt := 22) dX6_far_15 (by decide) (fun c_15 => ?_) (fun c_15 => ?_)
      · refine z_iconstB F false dX6_far_22 rfl ?_
        exact J F1 A1 f0 f1 f2
      · exact (inB_ff hx c_10 (Int32.not_lt.mpr (Int32.not_lt.mp c_15))).elim
noncomputable def apV (n : Nat) (f : Nat → Int32) (a b : Nat) : Nat := if a = b then 0 else mfl n f 24 a b
theorem c_mapart_ok (F0 : Nat → Int32) (G : Nat → Int64) (A : Nat → Nat → Int32) (B : Nat → Nat → Int64) (j n d : Nat) (f : Nat → Int32) (a b : Nat) (hj : j < 8) (h : nok n d f) (hs : Slt A j n (nI d) f) (ha : a < n) (hb : b < n) :
    zCtr yX6_apart cX6_apart 4 (some .int) 3 0 0 [zr 1 0, zi (nI j), zi (nI a), zi (nI b)] [zH, zG F0 G A B] (fun r w => r = some (zi (nI (apV n f a b))) ∧ ∃ F' A', w = [zH, zG F' G A' B] ∧ F' 0 = nI 0 ∧ frm [0, 4, 5] F0 F' ∧ frm [6, 26, 27, 28] A A') zNx := by
  refine z_start (by decide) [some (zr 1 0), some (zi (nI j)), some (zi (nI a)), some (zi (nI b))] rfl (fun _ => Nat.le_of_ble_eq_true rfl) (fun _ => rfl) (fun X F E hno hin => ?_)
  have hn1 := h.n1
  have hn := h.n24
  refine z_aload_n F dX6_apart_0 rfl ?_
  refine z_iload_n F dX6_apart_1 rfl ?_
  refine z_callV F (c_lays_ok _ _ _ _ j n (nI d) f hj (by omega) hn hs) 1 rfl (lw_V q1732 q1734 qs42 q117 q1735) (by decide +kernel) ⟨Nat.le_of_ble_eq_true rfl, Nat.le_of_ble_eq_true rfl⟩ ⟨by omega, by omega⟩ [0, 1] 2 ⟨rfl, rfl, rfl, ⟨Or.inl rfl, Or.inr rfl, trivial⟩⟩ (fun h => nomatch h) (Nat.le_of_ble_eq_true rfl) ⟨⟨Or.inr trivial, Or.inl rfl, trivial⟩, rfl, rfl, rfl, Nat.le_of_ble_eq_true rfl⟩ rfl zC6 (zat_G0 rfl) rfl dX6_apart_2 (fun r_2 w_2 hp => ?_) (fun _ _ h => h.elim)
  obtain ⟨rfl, F1, A1, rfl, f0, f1, f2, f3⟩ := hp
  refine z_weq (w' := [zH, zG _ _ _ _]) rfl ?_
  refine z_seq (S' := zi _ :: _) rfl ?_
  refine z_if_eqB F (tgt := 17) dX6_apart_5 (by decide) (fun c_5 => ?_) (fun c_5 => ?_)
  · cases c_5
  · refine z_aload_n F dX6_apart_8 rfl ?_
    refine z_iload_n F dX6_apart_9 rfl ?_
    refine z_iload_n F dX6_apart_10 rfl ?_
    refine z_callV F (c_mhas _ _ _ _ n (nI a) (nI b) f0 f3.1) 2 rfl (lw_V q1740 q1742 qs44 q117 q1743) (by decide +kernel) ⟨Nat.le_of_ble_eq_true rfl, Nat.le_of_ble_eq_true rfl⟩ ⟨by omega, by omega⟩ [0, 1] 2 ⟨rfl, rfl, rfl, ⟨Or.inl rfl, Or.inr rfl, trivial⟩⟩ (fun h => nomatch h) (Nat.le_of_ble_eq_true rfl) ⟨⟨Or.inr trivial, Or.inl rfl, trivial⟩, rfl, rfl, rfl, Nat.le_of_ble_eq_true rfl⟩ rfl zC6 (zat_G0 rfl) rfl dX6_apart_11 (fun r_11 w_11 hp => ?_) (fun _ _ h => h.elim)
    obtain ⟨rfl, rfl⟩ := hp
    rw [knB_n ha (by omega), knB_n hb (by omega), Bool.and_self]
    rw [if_pos rfl]
    refine z_weq (w' := [zH, zG _ _ _ _]) rfl ?_
    refine z_seq (S' := zi _ :: _) rfl ?_
    refine z_if_neB F (tgt := 19) dX6_apart_14 (by decide) (fun c_14 => ?_) (fun c_14 => ?_)
    · refine z_iload_n F dX6_apart_19 rfl ?_
      refine z_iload_n F dX6_apart_20 rfl ?_
      refine z_icmp_neN F (by omega) (by omega) (tgt := 28) dX6_apart_21 (by decide) (fun c_21 => ?_) (fun c_21 => ?_)
      · refine z_aload_n F dX6_apart_28 rfl ?_
        refine z_iload_n F dX6_apart_29 rfl ?_
        refine z_iload_n F dX6_apart_30 rfl ?_
        refine z_callV F (c_mways F1 _ _ _ n a b f hn ha hb c_21 f3.1 (fun k hk => f3.2.2 k (by omega))) 2 rfl (lw_V q1900 q1902 qs67 q117 q1903) (by decide +kernel) ⟨Nat.le_of_ble_eq_true rfl, Nat.le_of_ble_eq_true rfl⟩ ⟨by omega, by omega⟩ [0, 1] 2 ⟨rfl, rfl, rfl, ⟨Or.inl rfl, Or.inr rfl, trivial⟩⟩ (fun h => nomatch h) (Nat.le_of_ble_eq_true rfl) ⟨⟨Or.inr trivial, Or.inl rfl, trivial⟩, rfl, rfl, rfl, Nat.le_of_ble_eq_true rfl⟩ rfl zC6 (zat_G0 rfl) rfl dX6_apart_31 (fun r_31 w_31 hp => ?_) (fun _ _ h => h.elim)
        obtain ⟨rfl, A2, rfl, g2⟩ := hp
        refine z_weq (w' := [zH, zG _ _ _ _]) rfl ?_
        refine z_seq (S' := zi _ :: _) rfl ?_
        exact z_iret F E rfl dX6_apart_34 (by omega) (by omega) (⟨by rw [apV, if_neg c_21], F1, A2, rfl, f0, f1, f2.tr g2 (by decide) (by decide)⟩)
      · refine z_iconst F (nI 0) dX6_apart_24 rfl ?_
        refine z_goto F (tgt := 34) dX6_apart_25 (by decide) ?_
        exact z_iret F E rfl dX6_apart_34 (by omega) (by omega) (⟨by rw [apV, if_pos c_21], F1, A1, rfl, f0, f1, f2.to (by decide)⟩)
    · cases c_14
abbrev xFF (P : zPt) (t : Nat) (fp sn0 g0 sm0 : Int32) (D : Nat → Int32) (pl : Int32) (M : Nat → Nat → Int32) (fr ln : Nat → Int32) : List zE := [zPl (pR P) P, xO t fp, zH, eFl 4 sn0 g0 sm0, zAi 0 24 D, zO 3 [zr 6 0, zr 7 0, zr 8 0, zi pl], zMi 4 0 48 48 M, zAi 0 48 fr, zAi 0 48 ln, zH, zH, zH, zH, zH, zH, zH, zH, zH, zH, zH, zH, zH]
theorem c_papart (P : zPt) (t : Nat) (fp sn0 g0 sm0 : Int32) (D : Nat → Int32) (pl : Int32) (M : Nat → Nat → Int32) (fr ln : Nat → Int32) (j n d : Nat) (f : Nat → Int32) (a b : Int32) (hj : j < 8) (h : nok n d f) (hP : P j = some (nI n, nI d, f)) : zCtr yX1_apart cX1_apart 5 (some .int) 8 3 18 [zr 1 0, zi (nI j), zi a, zi b] (xFF P t fp sn0 g0 sm0 D pl M fr ln) (fun r w => ∃ a' b', a' < n ∧ b' < n ∧ a = nI a' ∧ b = nI b' ∧ r = some (zi (nI (apV n f a' b'))) ∧ ∃ pl M fr ln, w = xFF P t fp sn0 g0 sm0 D pl M fr ln) (fun E w => E = eNSE ∧ (knB n a && knB n b) = false ∧ w = xFF P t fp sn0 g0 sm0 D pl M fr ln) := by
  refine z_start (by decide) [some (zr 1 0), some (zi (nI j)), some (zi a), some (zi b), none] rfl (fun _ => Nat.le_of_ble_eq_true rfl) (fun _ => rfl) (fun X F E hno hin => ?_)
  have h1 := h.n1
  have h24 := h.n24
  refine z_aload_n F dX1_apart_0 rfl ?_
  refine z_iload_n F dX1_apart_1 rfl ?_
  refine z_callV F (c_netAt_ok P t fp j hj hP) 1 rfl (lw_V q429 q431 qs0 q109 q432) (by decide +kernel) ⟨Nat.le_of_ble_eq_true rfl, Nat.le_of_ble_eq_true rfl⟩ ⟨by omega, by omega⟩ [0, 1, 2, 3, 4, 5, 6, 7, 8, 9, 10, 11, 12, 13, 14, 15, 16, 17, 18, 19, 20, 21] 22 ⟨rfl, rfl, rfl, ⟨Or.inr (congrArg some (zrnP rfl).symm), Or.inr rfl, Or.inl rfl, Or.inl rfl, Or.inl rfl, Or.inl rfl, Or.inl rfl, Or.inl rfl, Or.inl rfl, Or.inl rfl, Or.inl rfl, Or.inl rfl, Or.inl rfl, Or.inl rfl, Or.inl rfl, Or.inl rfl, Or.inl rfl, Or.inl rfl, Or.inl rfl, Or.inl rfl, Or.inl rfl, Or.inl rfl, trivial⟩⟩ (fun _ => rfl) (Nat.le_of_ble_eq_true rfl) ⟨⟨Or.inl rfl, Or.inl rfl, Or.inr trivial, Or.inr rfl, Or.inr trivial, Or.inr rfl, Or.inr trivial, Or.inr trivial, Or.inr trivial, Or.inr trivial, Or.inr trivial, Or.inr trivial, Or.inr trivial, Or.inr trivial, Or.inr trivial, Or.inr trivial, Or.inr trivial, Or.inr trivial, Or.inr trivial, Or.inr trivial, Or.inr trivial, Or.inr trivial, trivial⟩, rfl, rfl, rfl, Nat.le_of_ble_eq_true rfl⟩ rfl zC1 rfl rfl dX1_apart_2 (fun r_2 w_2 hp => ?_) (fun _ _ h => h.elim)
  obtain ⟨rfl, rfl⟩ := hp
  refine z_weq (w' := zPl (pR _) _ :: _) (congrArg (fun z => z :: _) (zrnP rfl)) ?_
  refine z_weq (w' := [zPl _ _, zO _ [zr _ _, zr _ _, zr _ _, zr _ _, zr _ _, zi _, zi _, zr _ _, zr _ _], zH, zO _ [zr _ _, zi _, zi _, zi _], zAi 0 24 _, zO _ [zr _ _, zr _ _, zr _ _, zi _], zMi 4 0 48 48 _, zAi 0 48 _, zAi 0 48 _, zH, zH, zH, zH, zH, zH, zH, zH, zH, zH, zH, zH, zH]) rfl ?_
  refine z_seq (S' := zr _ _ :: _) rfl ?_
  refine z_astore F dX1_apart_5 (Nat.le_of_ble_eq_true rfl) ?_
  refine z_leq (L' := [_, _, _, _, _]) rfl ?_
  refine z_foc F j hj hP (N := 22) (M := 23) (L' := [_, _, _, _, some (zr 22 0)]) (S' := []) rfl rfl (Nat.le_of_ble_eq_true rfl) ⟨rfl, trivial, rfl, trivial, rfl, trivial, trivial, trivial, trivial, trivial, trivial, trivial, trivial, trivial, trivial, trivial, trivial, trivial, trivial, trivial, trivial, trivial⟩ ⟨Or.inl rfl, Or.inl rfl, Or.inl rfl, Or.inl rfl, Or.inr ⟨rfl, rfl⟩, trivial⟩ rfl trivial rfl ?_
  refine z_weq (w' := [zPl _ _, zO _ [zr _ _, zr _ _, zr _ _, zr _ _, zr _ _, zi _, zi _, zr _ _, zr _ _], zH, zO _ [zr _ _, zi _, zi _, zi _], zAi 0 24 _, zO _ [zr _ _, zr _ _, zr _ _, zi _], zMi 4 0 48 48 _, zAi 0 48 _, zAi 0 48 _, zH, zH, zH, zH, zH, zH, zH, zH, zH, zH, zH, zH, zH, zO _ [zi _, zi _, zr _ _], zAi 0 24 _]) rfl ?_
  refine z_aload F dX1_apart_7 rfl ?_
  refine z_iload_n F dX1_apart_9 rfl ?_
  refine z_callS F (c_knot n (nI d) a h1 h24) 2 rfl (lw_S q500 q501 q109 q502) (by decide +kernel) ⟨Nat.le_of_ble_eq_true rfl, Nat.le_of_ble_eq_true rfl⟩ ⟨by omega, by omega⟩ [0, 22, 23] 24 ⟨rfl, rfl, rfl, ⟨Or.inl rfl, Or.inr rfl, Or.inl rfl, trivial⟩⟩ (fun h => nomatch h) (Nat.le_of_ble_eq_true rfl) ⟨⟨Or.inr (by first | exact ⟨rfl, pR_B _ (by decide)⟩ | exact ⟨rfl, uR_B (by decide) (by decide)⟩), Or.inr rfl, Or.inr trivial, Or.inr rfl, Or.inr trivial, Or.inr rfl, Or.inr trivial, Or.inr trivial, Or.inr trivial, Or.inr trivial, Or.inr trivial, Or.inr trivial, Or.inr trivial, Or.inr trivial, Or.inr trivial, Or.inr trivial, Or.inr trivial, Or.inr trivial, Or.inr trivial, Or.inr trivial, Or.inr trivial, Or.inr trivial, Or.inl rfl, Or.inr trivial, trivial⟩, rfl, rfl, rfl, Nat.le_of_ble_eq_true rfl⟩ rfl rfl dX1_apart_10 (fun r_10 w_10 hp => ?_) (fun E_ w_ hx => by obtain ⟨rfl, hb, rfl⟩ := hx; exact zx_pub F rfl E hno j 22 23 hj hP rfl rfl (Nat.le_of_ble_eq_true rfl) (Nat.le_of_ble_eq_true rfl) (Nat.le_of_ble_eq_true rfl) _ rfl ⟨rfl, trivial, rfl, trivial, rfl, trivial, trivial, trivial, trivial, trivial, trivial, trivial, trivial, trivial, trivial, trivial, trivial, trivial, trivial, trivial, trivial, trivial⟩ (Nat.le_of_ble_eq_true rfl) (by omega) (by omega) (⟨rfl, by rw [hb]; rfl, rfl⟩))
  obtain ⟨rfl, hb, rfl⟩ := hp
  obtain ⟨a', ha, rfl⟩ := knB_of h24 hb
  refine z_weq (w' := [zPl _ _, zO _ [zr _ _, zr _ _, zr _ _, zr _ _, zr _ _, zi _, zi _, zr _ _, zr _ _], zH, zO _ [zr _ _, zi _, zi _, zi _], zAi 0 24 _, zO _ [zr _ _, zr _ _, zr _ _, zi _], zMi 4 0 48 48 _, zAi 0 48 _, zAi 0 48 _, zH, zH, zH, zH, zH, zH, zH, zH, zH, zH, zH, zH, zH, zO _ [zi _, zi _, zr _ _], zAi 0 24 _]) rfl ?_
  refine z_seq (S' := []) rfl ?_
  refine z_aload F dX1_apart_13 rfl ?_
  refine z_iload_n F dX1_apart_15 rfl ?_
  refine z_callS F (c_knot n (nI d) b h1 h24) 2 rfl (lw_S q500 q501 q109 q502) (by decide +kernel) ⟨Nat.le_of_ble_eq_true rfl, Nat.le_of_ble_eq_true rfl⟩ ⟨by omega, by omega⟩ [0, 22, 23] 24 ⟨rfl, rfl, rfl, ⟨Or.inl rfl, Or.inr rfl, Or.inl rfl, trivial⟩⟩ (fun h => nomatch h) (Nat.le_of_ble_eq_true rfl) ⟨⟨Or.inr (by first | exact ⟨rfl, pR_B _ (by decide)⟩ | exact ⟨rfl, uR_B (by decide) (by decide)⟩), Or.inr rfl, Or.inr trivial, Or.inr rfl, Or.inr trivial, Or.inr rfl, Or.inr trivial, Or.inr trivial, Or.inr trivial, Or.inr trivial, Or.inr trivial, Or.inr trivial, Or.inr trivial, Or.inr trivial, Or.inr trivial, Or.inr trivial, Or.inr trivial, Or.inr trivial, Or.inr trivial, Or.inr trivial, Or.inr trivial, Or.inr trivial, Or.inl rfl, Or.inr trivial, trivial⟩, rfl, rfl, rfl, Nat.le_of_ble_eq_true rfl⟩ rfl rfl dX1_apart_16 (fun r_16 w_16 hp => ?_) (fun E_ w_ hx => by obtain ⟨rfl, hb, rfl⟩ := hx; exact zx_pub F rfl E hno j 22 23 hj hP rfl rfl (Nat.le_of_ble_eq_true rfl) (Nat.le_of_ble_eq_true rfl) (Nat.le_of_ble_eq_true rfl) _ rfl ⟨rfl, trivial, rfl, trivial, rfl, trivial, trivial, trivial, trivial, trivial, trivial, trivial, trivial, trivial, trivial, trivial, trivial, trivial, trivial, trivial, trivial, trivial⟩ (Nat.le_of_ble_eq_true rfl) (by omega) (by omega) (⟨rfl, by rw [hb, Bool.and_false], rfl⟩))
  obtain ⟨rfl, hb, rfl⟩ := hp
  obtain ⟨b', hb', rfl⟩ := knB_of h24 hb
  refine z_weq (w' := [zPl _ _, zO _ [zr _ _, zr _ _, zr _ _, zr _ _, zr _ _, zi _, zi _, zr _ _, zr _ _], zH, zO _ [zr _ _, zi _, zi _, zi _], zAi 0 24 _, zO _ [zr _ _, zr _ _, zr _ _, zi _], zMi 4 0 48 48 _, zAi 0 48 _, zAi 0 48 _, zH, zH, zH, zH, zH, zH, zH, zH, zH, zH, zH, zH, zH, zO _ [zi _, zi _, zr _ _], zAi 0 24 _]) rfl ?_
  refine z_seq (S' := []) rfl ?_
  refine z_iload_n F dX1_apart_19 rfl ?_
  refine z_iload_n F dX1_apart_20 rfl ?_
  refine z_icmp_neN F (by omega) (by omega) (tgt := 28) dX1_apart_21 (by decide) (fun c_21 => ?_) (fun c_21 => ?_)
  · refine z_aload_n F dX1_apart_28 rfl ?_
    refine z_get F zC1 (f := 3) rfl (Nat.le_of_ble_eq_true rfl) q317 rfl dX1_apart_29 ?_
    refine z_aload F dX1_apart_32 rfl ?_
    refine z_iload_n F dX1_apart_34 rfl ?_
    refine z_iload_n F dX1_apart_35 rfl ?_
    refine z_iconstB F false dX1_apart_36 rfl ?_
    refine z_callV F (c_fwMost n a' b' (nI d) f false _ _ _ _ h24 ha hb') 4 rfl (lw_V q876 q845 q846 q111 q847) (by decide +kernel) ⟨Nat.le_of_ble_eq_true rfl, Nat.le_of_ble_eq_true rfl⟩ ⟨by omega, by omega⟩ [0, 5, 6, 7, 8, 22, 23] 24 ⟨rfl, rfl, rfl, ⟨Or.inl rfl, Or.inr rfl, Or.inr rfl, Or.inr rfl, Or.inr rfl, Or.inr rfl, Or.inr rfl, trivial⟩⟩ (fun h => nomatch h) (Nat.le_of_ble_eq_true rfl) ⟨⟨Or.inr (by first | exact ⟨rfl, pR_B _ (by decide)⟩ | exact ⟨rfl, uR_B (by decide) (by decide)⟩), Or.inr rfl, Or.inr trivial, Or.inr rfl, Or.inr trivial, Or.inl rfl, Or.inl rfl, Or.inl rfl, Or.inl rfl, Or.inr trivial, Or.inr trivial, Or.inr trivial, Or.inr trivial, Or.inr trivial, Or.inr trivial, Or.inr trivial, Or.inr trivial, Or.inr trivial, Or.inr trivial, Or.inr trivial, Or.inr trivial, Or.inr trivial, Or.inl rfl, Or.inl rfl, trivial⟩, rfl, rfl, rfl, Nat.le_of_ble_eq_true rfl⟩ rfl zC3 rfl rfl dX1_apart_37 (fun r_37 w_37 hp => ?_) (fun _ _ h => h.elim)
    obtain ⟨rfl, pl1, M1, fr1, ln1, rfl⟩ := hp
    refine z_weq (w' := [zPl _ _, zO _ [zr _ _, zr _ _, zr _ _, zr _ _, zr _ _, zi _, zi _, zr _ _, zr _ _], zH, zO _ [zr _ _, zi _, zi _, zi _], zAi 0 24 _, zO _ [zr _ _, zr _ _, zr _ _, zi _], zMi 4 0 48 48 _, zAi 0 48 _, zAi 0 48 _, zH, zH, zH, zH, zH, zH, zH, zH, zH, zH, zH, zH, zH, zO _ [zi _, zi _, zr _ _], zAi 0 24 _]) rfl ?_
    refine z_seq (S' := zi _ :: _) rfl ?_
    refine z_loc [some _, some _, some _, some _, none] ⟨rfl, rfl, rfl, rfl, trivial⟩ ?_
    refine z_unfocus F rfl j 22 23 22 hj zput_self rfl rfl (Nat.le_of_ble_eq_true rfl) (Nat.le_of_ble_eq_true rfl) (Nat.le_of_ble_eq_true rfl) (Nat.le_of_ble_eq_true rfl) [zO _ [zr _ _, zr _ _, zr _ _, zr _ _, zr _ _, zi _, zi _, zr _ _, zr _ _], zH, zO _ [zr _ _, zi _, zi _, zi _], zAi 0 24 _, zO _ [zr _ _, zr _ _, zr _ _, zi _], zMi 4 0 48 48 _, zAi 0 48 _, zAi 0 48 _, zH, zH, zH, zH, zH, zH, zH, zH, zH, zH, zH, zH, zH] rfl ⟨rfl, trivial, rfl, trivial, rfl, trivial, trivial, trivial, trivial, trivial, trivial, trivial, trivial, trivial, trivial, trivial, trivial, trivial, trivial, trivial, trivial, trivial⟩ uOK rfl rfl ?_
    refine z_weq (w' := zPl (pR (zput P j (some _))) (zput P j (some _)) :: _) (congrArg (fun z => z :: _) uPl2) ?_
    exact z_iret F E rfl dX1_apart_40 (by omega) (by omega) (⟨a', b', ha, hb', rfl, rfl, by rw [apV, if_neg c_21]; rfl, pl1, M1, fr1, ln1, by rw [zput_some hP]; rfl⟩)
  · refine z_iconst F (nI 0) dX1_apart_24 rfl ?_
    refine z_goto F (tgt := 40) dX1_apart_25 (by decide) ?_
    refine z_loc [some _, some _, some _, some _, none] ⟨rfl, rfl, rfl, rfl, trivial⟩ ?_
    refine z_unfocus F rfl j 22 23 22 hj zput_self rfl rfl (Nat.le_of_ble_eq_true rfl) (Nat.le_of_ble_eq_true rfl) (Nat.le_of_ble_eq_true rfl) (Nat.le_of_ble_eq_true rfl) [zO _ [zr _ _, zr _ _, zr _ _, zr _ _, zr _ _, zi _, zi _, zr _ _, zr _ _], zH, zO _ [zr _ _, zi _, zi _, zi _], zAi 0 24 _, zO _ [zr _ _, zr _ _, zr _ _, zi _], zMi 4 0 48 48 _, zAi 0 48 _, zAi 0 48 _, zH, zH, zH, zH, zH, zH, zH, zH, zH, zH, zH, zH, zH] rfl ⟨rfl, trivial, rfl, trivial, rfl, trivial, trivial, trivial, trivial, trivial, trivial, trivial, trivial, trivial, trivial, trivial, trivial, trivial, trivial, trivial, trivial, trivial⟩ uOK rfl rfl ?_
    refine z_weq (w' := zPl (pR (zput P j (some _))) (zput P j (some _)) :: _) (congrArg (fun z => z :: _) uPl2) ?_
    exact z_iret F E rfl dX1_apart_40 (by omega) (by omega) (⟨a', b', ha, hb', rfl, rfl, by rw [apV, if_pos c_21], pl, M, fr, ln, by rw [zput_some hP]; rfl⟩)
theorem c_pfar (P : zPt) (t : Nat) (fp sn0 g0 sm0 : Int32) (D : Nat → Int32) (pl : Int32) (M : Nat → Nat → Int32) (fr ln : Nat → Int32) (j n d : Nat) (f : Nat → Int32) (x : Nat) (hj : j < 8) (h : nok n d f) (hP : P j = some (nI n, nI d, f)) (hx : x < 6) : zCtr yX1_far cX1_far 4 (some .int) 8 3 118 [zr 1 0, zi (nI j), zi (nI x)] (xFF P t fp sn0 g0 sm0 D pl M fr ln) (fun r w => r = some (zi (farV n f x)) ∧ ∃ sn0 g0 sm0 D pl M fr ln, w = xFF P t fp sn0 g0 sm0 D pl M fr ln) zNx := by
  refine z_start (by decide) [some (zr 1 0), some (zi (nI j)), some (zi (nI x)), none] rfl (fun _ => Nat.le_of_ble_eq_true rfl) (fun _ => rfl) (fun X F E hno hin => ?_)
  have h1 := h.n1
  have h24 := h.n24
  have hall : ∀ i, i < 32 → bt (allB n) i = true → i < n := fun i _ h => al_lt h24 i h
  have K : Z X [some (zr 1 0), some (zi (nI j)), some (zi (nI x)), some (zr 22 0)] [zi (nI x)] [zPl (zput (pR P) j (zr 22 0)) (zput P j none), xO t fp, zH, eFl 4 sn0 g0 sm0, zAi 0 24 D, zO 3 [zr 6 0, zr 7 0, zr 8 0, zi pl], zMi 4 0 48 48 M, zAi 0 48 fr, zAi 0 48 ln, zH, zH, zH, zH, zH, zH, zH, zH, zH, zH, zH, zH, zH, zO 5 [zi (nI n), zi (nI d), zr 23 0], zAi 0 24 f] 1 6 7 := by
    rcases (by omega : x = 0 ∨ x = 1 ∨ x = 2 ∨ x = 3 ∨ x = 4 ∨ x = 5) with rfl | rfl | rfl | rfl | rfl | rfl
    ·
      refine z_tswIn F 0 (tgt := 44) dX1_far_7 rfl (by decide) (by decide) rfl (by decide) ?_
      refine z_aload_n F dX1_far_44 rfl ?_
      refine z_get F zC1 (f := 2) rfl (Nat.le_of_ble_eq_true rfl) q316 rfl dX1_far_45 ?_
      refine z_aload_n F dX1_far_48 rfl ?_
      refine z_callV F (c_cjn n (nI d) f _ _ _ _ h24 h1) 1 rfl (lw_V q818 q819 q820 q110 q821) (by decide +kernel) ⟨Nat.le_of_ble_eq_true rfl, Nat.le_of_ble_eq_true rfl⟩ ⟨by omega, by omega⟩ [0, 3, 4, 22, 23] 24 ⟨rfl, rfl, rfl, ⟨Or.inl rfl, Or.inr rfl, Or.inr rfl, Or.inr rfl, Or.inr rfl, trivial⟩⟩ (fun h => nomatch h) (Nat.le_of_ble_eq_true rfl) ⟨⟨Or.inr (by first | exact ⟨rfl, pR_B _ (by decide)⟩ | exact ⟨rfl, uR_B (by decide) (by decide)⟩), Or.inr rfl, Or.inr trivial, Or.inl rfl, Or.inl rfl, Or.inr rfl, Or.inr trivial, Or.inr trivial, Or.inr trivial, Or.inr trivial, Or.inr trivial, Or.inr trivial, Or.inr trivial, Or.inr trivial, Or.inr trivial, Or.inr trivial, Or.inr trivial, Or.inr trivial, Or.inr trivial, Or.inr trivial, Or.inr trivial, Or.inr trivial, Or.inl rfl, Or.inl rfl, trivial⟩, rfl, rfl, rfl, Nat.le_of_ble_eq_true rfl⟩ rfl zC2 rfl rfl dX1_far_49 (fun r_49 w_49 hp => ?_) (fun _ _ h => h.elim)
      obtain ⟨rfl, sn1, g1, sm1, D1, rfl⟩ := hp
      refine z_weq (w' := [zPl _ _, zO _ [zr _ _, zr _ _, zr _ _, zr _ _, zr _ _, zi _, zi _, zr _ _, zr _ _], zH, zO _ [zr _ _, zi _, zi _, zi _], zAi 0 24 _, zO _ [zr _ _, zr _ _, zr _ _, zi _], zMi 4 0 48 48 _, zAi 0 48 _, zAi 0 48 _, zH, zH, zH, zH, zH, zH, zH, zH, zH, zH, zH, zH, zH, zO _ [zi _, zi _, zr _ _], zAi 0 24 _]) rfl ?_
      refine z_seq (S' := zi _ :: _) rfl ?_
      refine z_if_eqB F (tgt := 70) dX1_far_52 (by decide) (fun c_52 => ?_) (fun c_52 => ?_)
      · refine z_iconst F (-1) dX1_far_70 rfl ?_
        refine z_loc [some _, some _, some _, none] ⟨rfl, rfl, rfl, trivial⟩ ?_
        refine z_unfocus F rfl j 22 23 22 hj zput_self rfl rfl (Nat.le_of_ble_eq_true rfl) (Nat.le_of_ble_eq_true rfl) (Nat.le_of_ble_eq_true rfl) (Nat.le_of_ble_eq_true rfl) [zO _ [zr _ _, zr _ _, zr _ _, zr _ _, zr _ _, zi _, zi _, zr _ _, zr _ _], zH, zO _ [zr _ _, zi _, zi _, zi _], zAi 0 24 _, zO _ [zr _ _, zr _ _, zr _ _, zi _], zMi 4 0 48 48 _, zAi 0 48 _, zAi 0 48 _, zH, zH, zH, zH, zH, zH, zH, zH, zH, zH, zH, zH, zH] rfl ⟨rfl, trivial, rfl, trivial, rfl, trivial, trivial, trivial, trivial, trivial, trivial, trivial, trivial, trivial, trivial, trivial, trivial, trivial, trivial, trivial, trivial, trivial⟩ uOK rfl rfl ?_
        refine z_weq (w' := zPl (pR (zput P j (some _))) (zput P j (some _)) :: _) (congrArg (fun z => z :: _) uPl2) ?_
        exact z_iret F E rfl dX1_far_71 (by omega) (by omega) (⟨by show _ = some (zi (if cjn n f then nI (cfar n f (allB n)) else -1)); rw [c_52]; rfl, sn1, g1, sm1, D1, _, _, _, _, by rw [zput_some hP]; rfl⟩)
      · refine z_aload_n F dX1_far_55 rfl ?_
        refine z_get F zC1 (f := 2) rfl (Nat.le_of_ble_eq_true rfl) q316 rfl dX1_far_56 ?_
        refine z_aload_n F dX1_far_59 rfl ?_
        refine z_aload_n F dX1_far_60 rfl ?_
        refine z_callV F (c_all n (nI d) h24) 0 rfl (lw_V q822 q800 q801 q116 q802) (by decide +kernel) ⟨Nat.le_of_ble_eq_true rfl, Nat.le_of_ble_eq_true rfl⟩ ⟨by omega, by omega⟩ [0, 22, 23] 24 ⟨rfl, rfl, rfl, ⟨Or.inl rfl, Or.inr rfl, Or.inl rfl, trivial⟩⟩ (fun h => nomatch h) (Nat.le_of_ble_eq_true rfl) ⟨⟨Or.inr (by first | exact ⟨rfl, pR_B _ (by decide)⟩ | exact ⟨rfl, uR_B (by decide) (by decide)⟩), Or.inr rfl, Or.inr trivial, Or.inr rfl, Or.inr trivial, Or.inr rfl, Or.inr trivial, Or.inr trivial, Or.inr trivial, Or.inr trivial, Or.inr trivial, Or.inr trivial, Or.inr trivial, Or.inr trivial, Or.inr trivial, Or.inr trivial, Or.inr trivial, Or.inr trivial, Or.inr trivial, Or.inr trivial, Or.inr trivial, Or.inr trivial, Or.inl rfl, Or.inr trivial, trivial⟩, rfl, rfl, rfl, Nat.le_of_ble_eq_true rfl⟩ rfl zC5 rfl rfl dX1_far_61 (fun r_61 w_61 hp => ?_) (fun _ _ h => h.elim)
        obtain ⟨rfl, rfl⟩ := hp
        refine z_weq (w' := [zPl _ _, zO _ [zr _ _, zr _ _, zr _ _, zr _ _, zr _ _, zi _, zi _, zr _ _, zr _ _], zH, zO _ [zr _ _, zi _, zi _, zi _], zAi 0 24 _, zO _ [zr _ _, zr _ _, zr _ _, zi _], zMi 4 0 48 48 _, zAi 0 48 _, zAi 0 48 _, zH, zH, zH, zH, zH, zH, zH, zH, zH, zH, zH, zH, zH, zO _ [zi _, zi _, zr _ _], zAi 0 24 _]) rfl ?_
        refine z_seq (S' := zi _ :: _) rfl ?_
        refine z_callV F (c_farthest n (nI d) f (allB n) _ _ _ _ h24 hall) 2 rfl (lw_V q823 q824 q825 q110 q826) (by decide +kernel) ⟨Nat.le_of_ble_eq_true rfl, Nat.le_of_ble_eq_true rfl⟩ ⟨by omega, by omega⟩ [0, 3, 4, 22, 23] 24 ⟨rfl, rfl, rfl, ⟨Or.inl rfl, Or.inr rfl, Or.inr rfl, Or.inr rfl, Or.inr rfl, trivial⟩⟩ (fun h => nomatch h) (Nat.le_of_ble_eq_true rfl) ⟨⟨Or.inr (by first | exact ⟨rfl, pR_B _ (by decide)⟩ | exact ⟨rfl, uR_B (by decide) (by decide)⟩), Or.inr rfl, Or.inr trivial, Or.inl rfl, Or.inl rfl, Or.inr rfl, Or.inr trivial, Or.inr trivial, Or.inr trivial, Or.inr trivial, Or.inr trivial, Or.inr trivial, Or.inr trivial, Or.inr trivial, Or.inr trivial, Or.inr trivial, Or.inr trivial, Or.inr trivial, Or.inr trivial, Or.inr trivial, Or.inr trivial, Or.inr trivial, Or.inl rfl, Or.inl rfl, trivial⟩, rfl, rfl, rfl, Nat.le_of_ble_eq_true rfl⟩ rfl zC2 rfl rfl dX1_far_64 (fun r_64 w_64 hp => ?_) (fun _ _ h => h.elim)
        obtain ⟨rfl, sn2, g2, sm2, D2, rfl⟩ := hp
        refine z_weq (w' := [zPl _ _, zO _ [zr _ _, zr _ _, zr _ _, zr _ _, zr _ _, zi _, zi _, zr _ _, zr _ _], zH, zO _ [zr _ _, zi _, zi _, zi _], zAi 0 24 _, zO _ [zr _ _, zr _ _, zr _ _, zi _], zMi 4 0 48 48 _, zAi 0 48 _, zAi 0 48 _, zH, zH, zH, zH, zH, zH, zH, zH, zH, zH, zH, zH, zH, zO _ [zi _, zi _, zr _ _], zAi 0 24 _]) rfl ?_
        refine z_seq (S' := zi _ :: _) rfl ?_
        refine z_goto F (tgt := 71) dX1_far_67 (by decide) ?_
        refine z_loc [some _, some _, some _, none] ⟨rfl, rfl, rfl, trivial⟩ ?_
        refine z_unfocus F rfl j 22 23 22 hj zput_self rfl rfl (Nat.le_of_ble_eq_true rfl) (Nat.le_of_ble_eq_true rfl) (Nat.le_of_ble_eq_true rfl) (Nat.le_of_ble_eq_true rfl) [zO _ [zr _ _, zr _ _, zr _ _, zr _ _, zr _ _, zi _, zi _, zr _ _, zr _ _], zH, zO _ [zr _ _, zi _, zi _, zi _], zAi 0 24 _, zO _ [zr _ _, zr _ _, zr _ _, zi _], zMi 4 0 48 48 _, zAi 0 48 _, zAi 0 48 _, zH, zH, zH, zH, zH, zH, zH, zH, zH, zH, zH, zH, zH] rfl ⟨rfl, trivial, rfl, trivial, rfl, trivial, trivial, trivial, trivial, trivial, trivial, trivial, trivial, trivial, trivial, trivial, trivial, trivial, trivial, trivial, trivial, trivial⟩ uOK rfl rfl ?_
        refine z_weq (w' := zPl (pR (zput P j (some _))) (zput P j (some _)) :: _) (congrArg (fun z => z :: _) uPl2) ?_
        exact z_iret F E rfl dX1_far_71 (by omega) (by omega) (⟨by show _ = some (zi (if cjn n f then nI (cfar n f (allB n)) else -1)); rw [c_52]; rfl, sn2, g2, sm2, D2, _, _, _, _, by rw [zput_some hP]; rfl⟩)
    ·
      refine z_tswIn F 1 (tgt := 72) dX1_far_7 rfl (by decide) (by decide) rfl (by decide) ?_
      refine z_aload_n F dX1_far_72 rfl ?_
      refine z_get F zC1 (f := 2) rfl (Nat.le_of_ble_eq_true rfl) q316 rfl dX1_far_73 ?_
      refine z_aload_n F dX1_far_76 rfl ?_
      refine z_callV F (c_cjn n (nI d) f _ _ _ _ h24 h1) 1 rfl (lw_V q818 q819 q820 q110 q821) (by decide +kernel) ⟨Nat.le_of_ble_eq_true rfl, Nat.le_of_ble_eq_true rfl⟩ ⟨by omega, by omega⟩ [0, 3, 4, 22, 23] 24 ⟨rfl, rfl, rfl, ⟨Or.inl rfl, Or.inr rfl, Or.inr rfl, Or.inr rfl, Or.inr rfl, trivial⟩⟩ (fun h => nomatch h) (Nat.le_of_ble_eq_true rfl) ⟨⟨Or.inr (by first | exact ⟨rfl, pR_B _ (by decide)⟩ | exact ⟨rfl, uR_B (by decide) (by decide)⟩), Or.inr rfl, Or.inr trivial, Or.inl rfl, Or.inl rfl, Or.inr rfl, Or.inr trivial, Or.inr trivial, Or.inr trivial, Or.inr trivial, Or.inr trivial, Or.inr trivial, Or.inr trivial, Or.inr trivial, Or.inr trivial, Or.inr trivial, Or.inr trivial, Or.inr trivial, Or.inr trivial, Or.inr trivial, Or.inr trivial, Or.inr trivial, Or.inl rfl, Or.inl rfl, trivial⟩, rfl, rfl, rfl, Nat.le_of_ble_eq_true rfl⟩ rfl zC2 rfl rfl dX1_far_77 (fun r_77 w_77 hp => ?_) (fun _ _ h => h.elim)
      obtain ⟨rfl, sn1, g1, sm1, D1, rfl⟩ := hp
      refine z_weq (w' := [zPl _ _, zO _ [zr _ _, zr _ _, zr _ _, zr _ _, zr _ _, zi _, zi _, zr _ _, zr _ _], zH, zO _ [zr _ _, zi _, zi _, zi _], zAi 0 24 _, zO _ [zr _ _, zr _ _, zr _ _, zi _], zMi 4 0 48 48 _, zAi 0 48 _, zAi 0 48 _, zH, zH, zH, zH, zH, zH, zH, zH, zH, zH, zH, zH, zH, zO _ [zi _, zi _, zr _ _], zAi 0 24 _]) rfl ?_
      refine z_seq (S' := zi _ :: _) rfl ?_
      refine z_if_eqB F (tgt := 94) dX1_far_80 (by decide) (fun c_80 => ?_) (fun c_80 => ?_)
      · refine z_iconst F (-1) dX1_far_94 rfl ?_
        refine z_loc [some _, some _, some _, none] ⟨rfl, rfl, rfl, trivial⟩ ?_
        refine z_unfocus F rfl j 22 23 22 hj zput_self rfl rfl (Nat.le_of_ble_eq_true rfl) (Nat.le_of_ble_eq_true rfl) (Nat.le_of_ble_eq_true rfl) (Nat.le_of_ble_eq_true rfl) [zO _ [zr _ _, zr _ _, zr _ _, zr _ _, zr _ _, zi _, zi _, zr _ _, zr _ _], zH, zO _ [zr _ _, zi _, zi _, zi _], zAi 0 24 _, zO _ [zr _ _, zr _ _, zr _ _, zi _], zMi 4 0 48 48 _, zAi 0 48 _, zAi 0 48 _, zH, zH, zH, zH, zH, zH, zH, zH, zH, zH, zH, zH, zH] rfl ⟨rfl, trivial, rfl, trivial, rfl, trivial, trivial, trivial, trivial, trivial, trivial, trivial, trivial, trivial, trivial, trivial, trivial, trivial, trivial, trivial, trivial, trivial⟩ uOK rfl rfl ?_
        refine z_weq (w' := zPl (pR (zput P j (some _))) (zput P j (some _)) :: _) (congrArg (fun z => z :: _) uPl2) ?_
        exact z_iret F E rfl dX1_far_95 (by omega) (by omega) (⟨by show _ = some (zi (if cjn n f then nI (csm n f / 2) else -1)); rw [c_80]; rfl, sn1, g1, sm1, D1, _, _, _, _, by rw [zput_some hP]; rfl⟩)
      · refine z_aload_n F dX1_far_83 rfl ?_
        refine z_get F zC1 (f := 2) rfl (Nat.le_of_ble_eq_true rfl) q316 rfl dX1_far_84 ?_
        refine z_aload_n F dX1_far_87 rfl ?_
        refine z_callV F (c_sums n (nI d) f _ _ _ _ h24) 1 rfl (lw_V q828 q829 q830 q110 q831) (by decide +kernel) ⟨Nat.le_of_ble_eq_true rfl, Nat.le_of_ble_eq_true rfl⟩ ⟨by omega, by omega⟩ [0, 3, 4, 22, 23] 24 ⟨rfl, rfl, rfl, ⟨Or.inl rfl, Or.inr rfl, Or.inr rfl, Or.inr rfl, Or.inr rfl, trivial⟩⟩ (fun h => nomatch h) (Nat.le_of_ble_eq_true rfl) ⟨⟨Or.inr (by first | exact ⟨rfl, pR_B _ (by decide)⟩ | exact ⟨rfl, uR_B (by decide) (by decide)⟩), Or.inr rfl, Or.inr trivial, Or.inl rfl, Or.inl rfl, Or.inr rfl, Or.inr trivial, Or.inr trivial, Or.inr trivial, Or.inr trivial, Or.inr trivial, Or.inr trivial, Or.inr trivial, Or.inr trivial, Or.inr trivial, Or.inr trivial, Or.inr trivial, Or.inr trivial, Or.inr trivial, Or.inr trivial, Or.inr trivial, Or.inr trivial, Or.inl rfl, Or.inl rfl, trivial⟩, rfl, rfl, rfl, Nat.le_of_ble_eq_true rfl⟩ rfl zC2 rfl rfl dX1_far_88 (fun r_88 w_88 hp => ?_) (fun _ _ h => h.elim)
        obtain ⟨rfl, sn2, g2, sm2, D2, rfl⟩ := hp
        refine z_weq (w' := [zPl _ _, zO _ [zr _ _, zr _ _, zr _ _, zr _ _, zr _ _, zi _, zi _, zr _ _, zr _ _], zH, zO _ [zr _ _, zi _, zi _, zi _], zAi 0 24 _, zO _ [zr _ _, zr _ _, zr _ _, zi _], zMi 4 0 48 48 _, zAi 0 48 _, zAi 0 48 _, zH, zH, zH, zH, zH, zH, zH, zH, zH, zH, zH, zH, zH, zO _ [zi _, zi _, zr _ _], zAi 0 24 _]) rfl ?_
        refine z_seq (S' := zi _ :: _) rfl ?_
        refine z_goto F (tgt := 95) dX1_far_91 (by decide) ?_
        refine z_loc [some _, some _, some _, none] ⟨rfl, rfl, rfl, trivial⟩ ?_
        refine z_unfocus F rfl j 22 23 22 hj zput_self rfl rfl (Nat.le_of_ble_eq_true rfl) (Nat.le_of_ble_eq_true rfl) (Nat.le_of_ble_eq_true rfl) (Nat.le_of_ble_eq_true rfl) [zO _ [zr _ _, zr _ _, zr _ _, zr _ _, zr _ _, zi _, zi _, zr _ _, zr _ _], zH, zO _ [zr _ _, zi _, zi _, zi _], zAi 0 24 _, zO _ [zr _ _, zr _ _, zr _ _, zi _], zMi 4 0 48 48 _, zAi 0 48 _, zAi 0 48 _, zH, zH, zH, zH, zH, zH, zH, zH, zH, zH, zH, zH, zH] rfl ⟨rfl, trivial, rfl, trivial, rfl, trivial, trivial, trivial, trivial, trivial, trivial, trivial, trivial, trivial, trivial, trivial, trivial, trivial, trivial, trivial, trivial, trivial⟩ uOK rfl rfl ?_
        refine z_weq (w' := zPl (pR (zput P j (some _))) (zput P j (some _)) :: _) (congrArg (fun z => z :: _) uPl2) ?_
        exact z_iret F E rfl dX1_far_95 (by omega) (by omega) (⟨by show _ = some (zi (if cjn n f then nI (csm n f / 2) else -1)); rw [c_80]; rfl, sn2, g2, sm2, D2, _, _, _, _, by rw [zput_some hP]; rfl⟩)
    ·
      refine z_tswIn F 2 (tgt := 96) dX1_far_7 rfl (by decide) (by decide) rfl (by decide) ?_
      refine z_aload_n F dX1_far_96 rfl ?_
      refine z_get F zC1 (f := 2) rfl (Nat.le_of_ble_eq_true rfl) q316 rfl dX1_far_97 ?_
      refine z_aload_n F dX1_far_100 rfl ?_
      refine z_callV F (c_girth n d f _ _ _ _ h) 1 rfl (lw_V q832 q833 q834 q110 q835) (by decide +kernel) ⟨Nat.le_of_ble_eq_true rfl, Nat.le_of_ble_eq_true rfl⟩ ⟨by omega, by omega⟩ [0, 3, 4, 22, 23] 24 ⟨rfl, rfl, rfl, ⟨Or.inl rfl, Or.inr rfl, Or.inr rfl, Or.inr rfl, Or.inr rfl, trivial⟩⟩ (fun h => nomatch h) (Nat.le_of_ble_eq_true rfl) ⟨⟨Or.inr (by first | exact ⟨rfl, pR_B _ (by decide)⟩ | exact ⟨rfl, uR_B (by decide) (by decide)⟩), Or.inr rfl, Or.inr trivial, Or.inl rfl, Or.inl rfl, Or.inr rfl, Or.inr trivial, Or.inr trivial, Or.inr trivial, Or.inr trivial, Or.inr trivial, Or.inr trivial, Or.inr trivial, Or.inr trivial, Or.inr trivial, Or.inr trivial, Or.inr trivial, Or.inr trivial, Or.inr trivial, Or.inr trivial, Or.inr trivial, Or.inr trivial, Or.inl rfl, Or.inl rfl, trivial⟩, rfl, rfl, rfl, Nat.le_of_ble_eq_true rfl⟩ rfl zC2 rfl rfl dX1_far_101 (fun r_101 w_101 hp => ?_) (fun _ _ h => h.elim)
      obtain ⟨rfl, sn2, g2, sm2, D2, R2, rfl⟩ := hp
      refine z_weq (w' := [zPl _ _, zO _ [zr _ _, zr _ _, zr _ _, zr _ _, zr _ _, zi _, zi _, zr _ _, zr _ _], zH, zO _ [zr _ _, zi _, zi _, zi _], zAi 0 24 _, zO _ [zr _ _, zr _ _, zr _ _, zi _], zMi 4 0 48 48 _, zAi 0 48 _, zAi 0 48 _, zH, zH, zH, zH, zH, zH, zH, zH, zH, zH, zH, zH, zH, zO _ [zi _, zi _, zr _ _], zAi 0 24 _, zAi 0 _ _]) rfl ?_
      refine z_seq (S' := zi _ :: _) rfl ?_
      refine z_loc [some _, some _, some _, none] ⟨rfl, rfl, rfl, trivial⟩ ?_
      refine z_unfocus F rfl j 22 23 22 hj zput_self rfl rfl (Nat.le_of_ble_eq_true rfl) (Nat.le_of_ble_eq_true rfl) (Nat.le_of_ble_eq_true rfl) (Nat.le_of_ble_eq_true rfl) [zO _ [zr _ _, zr _ _, zr _ _, zr _ _, zr _ _, zi _, zi _, zr _ _, zr _ _], zH, zO _ [zr _ _, zi _, zi _, zi _], zAi 0 24 _, zO _ [zr _ _, zr _ _, zr _ _, zi _], zMi 4 0 48 48 _, zAi 0 48 _, zAi 0 48 _, zH, zH, zH, zH, zH, zH, zH, zH, zH, zH, zH, zH, zH] rfl ⟨rfl, trivial, rfl, trivial, rfl, trivial, trivial, trivial, trivial, trivial, trivial, trivial, trivial, trivial, trivial, trivial, trivial, trivial, trivial, trivial, trivial, trivial⟩ uOK rfl rfl ?_
      refine z_weq (w' := zPl (pR (zput P j (some _))) (zput P j (some _)) :: _) (congrArg (fun z => z :: _) uPl2) ?_
      exact z_iret F E rfl dX1_far_104 (by omega) (by omega) (⟨rfl, sn2, g2, sm2, D2, _, _, _, _, by rw [zput_some hP]; rfl⟩)
    ·
      refine z_tswIn F 3 (tgt := 105) dX1_far_7 rfl (by decide) (by decide) rfl (by decide) ?_
      refine z_aload_n F dX1_far_105 rfl ?_
      refine z_get F zC1 (f := 3) rfl (Nat.le_of_ble_eq_true rfl) q317 rfl dX1_far_106 ?_
      refine z_aload_n F dX1_far_109 rfl ?_
      refine z_callV F (c_fwThin n (nI d) f _ _ _ _ h24 h1) 1 rfl (lw_V q840 q841 q842 q111 q843) (by decide +kernel) ⟨Nat.le_of_ble_eq_true rfl, Nat.le_of_ble_eq_true rfl⟩ ⟨by omega, by omega⟩ [0, 5, 6, 7, 8, 22, 23] 24 ⟨rfl, rfl, rfl, ⟨Or.inl rfl, Or.inr rfl, Or.inr rfl, Or.inr rfl, Or.inr rfl, Or.inr rfl, Or.inr rfl, trivial⟩⟩ (fun h => nomatch h) (Nat.le_of_ble_eq_true rfl) ⟨⟨Or.inr (by first | exact ⟨rfl, pR_B _ (by decide)⟩ | exact ⟨rfl, uR_B (by decide) (by decide)⟩), Or.inr rfl, Or.inr trivial, Or.inr rfl, Or.inr trivial, Or.inl rfl, Or.inl rfl, Or.inl rfl, Or.inl rfl, Or.inr trivial, Or.inr trivial, Or.inr trivial, Or.inr trivial, Or.inr trivial, Or.inr trivial, Or.inr trivial, Or.inr trivial, Or.inr trivial, Or.inr trivial, Or.inr trivial, Or.inr trivial, Or.inr trivial, Or.inl rfl, Or.inl rfl, trivial⟩, rfl, rfl, rfl, Nat.le_of_ble_eq_true rfl⟩ rfl zC3 rfl rfl dX1_far_110 (fun r_110 w_110 hp => ?_) (fun _ _ h => h.elim)
      obtain ⟨rfl, pl1, M1, fr1, ln1, rfl⟩ := hp
      refine z_weq (w' := [zPl _ _, zO _ [zr _ _, zr _ _, zr _ _, zr _ _, zr _ _, zi _, zi _, zr _ _, zr _ _], zH, zO _ [zr _ _, zi _, zi _, zi _], zAi 0 24 _, zO _ [zr _ _, zr _ _, zr _ _, zi _], zMi 4 0 48 48 _, zAi 0 48 _, zAi 0 48 _, zH, zH, zH, zH, zH, zH, zH, zH, zH, zH, zH, zH, zH, zO _ [zi _, zi _, zr _ _], zAi 0 24 _]) rfl ?_
      refine z_seq (S' := zi _ :: _) rfl ?_
      refine z_loc [some _, some _, some _, none] ⟨rfl, rfl, rfl, trivial⟩ ?_
      refine z_unfocus F rfl j 22 23 22 hj zput_self rfl rfl (Nat.le_of_ble_eq_true rfl) (Nat.le_of_ble_eq_true rfl) (Nat.le_of_ble_eq_true rfl) (Nat.le_of_ble_eq_true rfl) [zO _ [zr _ _, zr _ _, zr _ _, zr _ _, zr _ _, zi _, zi _, zr _ _, zr _ _], zH, zO _ [zr _ _, zi _, zi _, zi _], zAi 0 24 _, zO _ [zr _ _, zr _ _, zr _ _, zi _], zMi 4 0 48 48 _, zAi 0 48 _, zAi 0 48 _, zH, zH, zH, zH, zH, zH, zH, zH, zH, zH, zH, zH, zH] rfl ⟨rfl, trivial, rfl, trivial, rfl, trivial, trivial, trivial, trivial, trivial, trivial, trivial, trivial, trivial, trivial, trivial, trivial, trivial, trivial, trivial, trivial, trivial⟩ uOK rfl rfl ?_
      refine z_weq (w' := zPl (pR (zput P j (some _))) (zput P j (some _)) :: _) (congrArg (fun z => z :: _) uPl2) ?_
      exact z_iret F E rfl dX1_far_113 (by omega) (by omega) (⟨rfl, _, _, _, _, pl1, M1, fr1, ln1, by rw [zput_some hP]; rfl⟩)
    ·
      refine z_tswIn F 4 (tgt := 114) dX1_far_7 rfl (by decide) (by decide) rfl (by decide) ?_
      refine z_aload_n F dX1_far_114 rfl ?_
      refine z_get F zC1 (f := 3) rfl (Nat.le_of_ble_eq_true rfl) q317 rfl dX1_far_115 ?_
      refine z_aload_n F dX1_far_118 rfl ?_
      refine z_callV F (c_fwThinK n (nI d) f _ _ _ _ h24 h1) 1 rfl (lw_V q858 q859 q860 q111 q861) (by decide +kernel) ⟨Nat.le_of_ble_eq_true rfl, Nat.le_of_ble_eq_true rfl⟩ ⟨by omega, by omega⟩ [0, 5, 6, 7, 8, 22, 23] 24 ⟨rfl, rfl, rfl, ⟨Or.inl rfl, Or.inr rfl, Or.inr rfl, Or.inr rfl, Or.inr rfl, Or.inr rfl, Or.inr rfl, trivial⟩⟩ (fun h => nomatch h) (Nat.le_of_ble_eq_true rfl) ⟨⟨Or.inr (by first | exact ⟨rfl, pR_B _ (by decide)⟩ | exact ⟨rfl, uR_B (by decide) (by decide)⟩), Or.inr rfl, Or.inr trivial, Or.inr rfl, Or.inr trivial, Or.inl rfl, Or.inl rfl, Or.inl rfl, Or.inl rfl, Or.inr trivial, Or.inr trivial, Or.inr trivial, Or.inr trivial, Or.inr trivial, Or.inr trivial, Or.inr trivial, Or.inr trivial, Or.inr trivial, Or.inr trivial, Or.inr trivial, Or.inr trivial, Or.inr trivial, Or.inl rfl, Or.inl rfl, trivial⟩, rfl, rfl, rfl, Nat.le_of_ble_eq_true rfl⟩ rfl zC3 rfl rfl dX1_far_119 (fun r_119 w_119 hp => ?_) (fun _ _ h => h.elim)
      obtain ⟨rfl, pl1, M1, fr1, ln1, rfl⟩ := hp
      refine z_weq (w' := [zPl _ _, zO _ [zr _ _, zr _ _, zr _ _, zr _ _, zr _ _, zi _, zi _, zr _ _, zr _ _], zH, zO _ [zr _ _, zi _, zi _, zi _], zAi 0 24 _, zO _ [zr _ _, zr _ _, zr _ _, zi _], zMi 4 0 48 48 _, zAi 0 48 _, zAi 0 48 _, zH, zH, zH, zH, zH, zH, zH, zH, zH, zH, zH, zH, zH, zO _ [zi _, zi _, zr _ _], zAi 0 24 _]) rfl ?_
      refine z_seq (S' := zi _ :: _) rfl ?_
      refine z_loc [some _, some _, some _, none] ⟨rfl, rfl, rfl, trivial⟩ ?_
      refine z_unfocus F rfl j 22 23 22 hj zput_self rfl rfl (Nat.le_of_ble_eq_true rfl) (Nat.le_of_ble_eq_true rfl) (Nat.le_of_ble_eq_true rfl) (Nat.le_of_ble_eq_true rfl) [zO _ [zr _ _, zr _ _, zr _ _, zr _ _, zr _ _, zi _, zi _, zr _ _, zr _ _], zH, zO _ [zr _ _, zi _, zi _, zi _], zAi 0 24 _, zO _ [zr _ _, zr _ _, zr _ _, zi _], zMi 4 0 48 48 _, zAi 0 48 _, zAi 0 48 _, zH, zH, zH, zH, zH, zH, zH, zH, zH, zH, zH, zH, zH] rfl ⟨rfl, trivial, rfl, trivial, rfl, trivial, trivial, trivial, trivial, trivial, trivial, trivial, trivial, trivial, trivial, trivial, trivial, trivial, trivial, trivial, trivial, trivial⟩ uOK rfl rfl ?_
      refine z_weq (w' := zPl (pR (zput P j (some _))) (zput P j (some _)) :: _) (congrArg (fun z => z :: _) uPl2) ?_
      exact z_iret F E rfl dX1_far_122 (by omega) (by omega) (⟨rfl, _, _, _, _, pl1, M1, fr1, ln1, by rw [zput_some hP]; rfl⟩)
    ·
      refine z_tswIn F 5 (tgt := 123) dX1_far_7 rfl (by decide) (by decide) rfl (by decide) ?_
      refine z_aload_n F dX1_far_123 rfl ?_
      refine z_get F zC1 (f := 2) rfl (Nat.le_of_ble_eq_true rfl) q316 rfl dX1_far_124 ?_
      refine z_aload_n F dX1_far_127 rfl ?_
      refine z_callV F (c_price n (nI d) f _ _ _ _ h24) 1 rfl (lw_V q862 q863 q864 q110 q865) (by decide +kernel) ⟨Nat.le_of_ble_eq_true rfl, Nat.le_of_ble_eq_true rfl⟩ ⟨by omega, by omega⟩ [0, 3, 4, 22, 23] 24 ⟨rfl, rfl, rfl, ⟨Or.inl rfl, Or.inr rfl, Or.inr rfl, Or.inr rfl, Or.inr rfl, trivial⟩⟩ (fun h => nomatch h) (Nat.le_of_ble_eq_true rfl) ⟨⟨Or.inr (by first | exact ⟨rfl, pR_B _ (by decide)⟩ | exact ⟨rfl, uR_B (by decide) (by decide)⟩), Or.inr rfl, Or.inr trivial, Or.inl rfl, Or.inl rfl, Or.inr rfl, Or.inr trivial, Or.inr trivial, Or.inr trivial, Or.inr trivial, Or.inr trivial, Or.inr trivial, Or.inr trivial, Or.inr trivial, Or.inr trivial, Or.inr trivial, Or.inr trivial, Or.inr trivial, Or.inr trivial, Or.inr trivial, Or.inr trivial, Or.inr trivial, Or.inl rfl, Or.inl rfl, trivial⟩, rfl, rfl, rfl, Nat.le_of_ble_eq_true rfl⟩ rfl zC2 rfl rfl dX1_far_128 (fun r_128 w_128 hp => ?_) (fun _ _ h => h.elim)
      obtain ⟨rfl, sn2, g2, sm2, D2, rfl⟩ := hp
      refine z_weq (w' := [zPl _ _, zO _ [zr _ _, zr _ _, zr _ _, zr _ _, zr _ _, zi _, zi _, zr _ _, zr _ _], zH, zO _ [zr _ _, zi _, zi _, zi _], zAi 0 24 _, zO _ [zr _ _, zr _ _, zr _ _, zi _], zMi 4 0 48 48 _, zAi 0 48 _, zAi 0 48 _, zH, zH, zH, zH, zH, zH, zH, zH, zH, zH, zH, zH, zH, zO _ [zi _, zi _, zr _ _], zAi 0 24 _]) rfl ?_
      refine z_seq (S' := zi _ :: _) rfl ?_
      refine z_loc [some _, some _, some _, none] ⟨rfl, rfl, rfl, trivial⟩ ?_
      refine z_unfocus F rfl j 22 23 22 hj zput_self rfl rfl (Nat.le_of_ble_eq_true rfl) (Nat.le_of_ble_eq_true rfl) (Nat.le_of_ble_eq_true rfl) (Nat.le_of_ble_eq_true rfl) [zO _ [zr _ _, zr _ _, zr _ _, zr _ _, zr _ _, zi _, zi _, zr _ _, zr _ _], zH, zO _ [zr _ _, zi _, zi _, zi _], zAi 0 24 _, zO _ [zr _ _, zr _ _, zr _ _, zi _], zMi 4 0 48 48 _, zAi 0 48 _, zAi 0 48 _, zH, zH, zH, zH, zH, zH, zH, zH, zH, zH, zH, zH, zH] rfl ⟨rfl, trivial, rfl, trivial, rfl, trivial, trivial, trivial, trivial, trivial, trivial, trivial, trivial, trivial, trivial, trivial, trivial, trivial, trivial, trivial, trivial, trivial⟩ uOK rfl rfl ?_
      refine z_weq (w' := zPl (pR (zput P j (some _))) (zput P j (some _)) :: _) (congrArg (fun z => z :: _) uPl2) ?_
      exact z_iret F E rfl dX1_far_131 (by omega) (by omega) (⟨rfl, sn2, g2, sm2, D2, _, _, _, _, by rw [zput_some hP]; rfl⟩)
  refine z_aload_n F dX1_far_0 rfl ?_
  refine z_iload_n F dX1_far_1 rfl ?_
  refine z_callV F (c_netAt_ok P t fp j hj hP) 1 rfl (lw_V q429 q431 qs0 q109 q432) (by decide +kernel) ⟨Nat.le_of_ble_eq_true rfl, Nat.le_of_ble_eq_true rfl⟩ ⟨by omega, by omega⟩ [0, 1, 2, 3, 4, 5, 6, 7, 8, 9, 10, 11, 12, 13, 14, 15, 16, 17, 18, 19, 20, 21] 22 ⟨rfl, rfl, rfl, ⟨Or.inr (congrArg some (zrnP rfl).symm), Or.inr rfl, Or.inl rfl, Or.inl rfl, Or.inl rfl, Or.inl rfl, Or.inl rfl, Or.inl rfl, Or.inl rfl, Or.inl rfl, Or.inl rfl, Or.inl rfl, Or.inl rfl, Or.inl rfl, Or.inl rfl, Or.inl rfl, Or.inl rfl, Or.inl rfl, Or.inl rfl, Or.inl rfl, Or.inl rfl, Or.inl rfl, trivial⟩⟩ (fun _ => rfl) (Nat.le_of_ble_eq_true rfl) ⟨⟨Or.inl rfl, Or.inl rfl, Or.inr trivial, Or.inr rfl, Or.inr trivial, Or.inr rfl, Or.inr trivial, Or.inr trivial, Or.inr trivial, Or.inr trivial, Or.inr trivial, Or.inr trivial, Or.inr trivial, Or.inr trivial, Or.inr trivial, Or.inr trivial, Or.inr trivial, Or.inr trivial, Or.inr trivial, Or.inr trivial, Or.inr trivial, Or.inr trivial, trivial⟩, rfl, rfl, rfl, Nat.le_of_ble_eq_true rfl⟩ rfl zC1 rfl rfl dX1_far_2 (fun r_2 w_2 hp => ?_) (fun _ _ h => h.elim)
  obtain ⟨rfl, rfl⟩ := hp
  refine z_weq (w' := zPl (pR _) _ :: _) (congrArg (fun z => z :: _) (zrnP rfl)) ?_
  refine z_weq (w' := [zPl _ _, zO _ [zr _ _, zr _ _, zr _ _, zr _ _, zr _ _, zi _, zi _, zr _ _, zr _ _], zH, zO _ [zr _ _, zi _, zi _, zi _], zAi 0 24 _, zO _ [zr _ _, zr _ _, zr _ _, zi _], zMi 4 0 48 48 _, zAi 0 48 _, zAi 0 48 _, zH, zH, zH, zH, zH, zH, zH, zH, zH, zH, zH, zH, zH]) rfl ?_
  refine z_seq (S' := zr _ _ :: _) rfl ?_
  refine z_astore_n F dX1_far_5 (Nat.le_of_ble_eq_true rfl) ?_
  refine z_leq (L' := [_, _, _, _]) rfl ?_
  refine z_foc F j hj hP (N := 22) (M := 23) (L' := [_, _, _, some (zr 22 0)]) (S' := []) rfl rfl (Nat.le_of_ble_eq_true rfl) ⟨rfl, trivial, rfl, trivial, rfl, trivial, trivial, trivial, trivial, trivial, trivial, trivial, trivial, trivial, trivial, trivial, trivial, trivial, trivial, trivial, trivial, trivial⟩ ⟨Or.inl rfl, Or.inl rfl, Or.inl rfl, Or.inr ⟨rfl, rfl⟩, trivial⟩ rfl trivial rfl ?_
  refine z_weq (w' := [zPl _ _, zO _ [zr _ _, zr _ _, zr _ _, zr _ _, zr _ _, zi _, zi _, zr _ _, zr _ _], zH, zO _ [zr _ _, zi _, zi _, zi _], zAi 0 24 _, zO _ [zr _ _, zr _ _, zr _ _, zi _], zMi 4 0 48 48 _, zAi 0 48 _, zAi 0 48 _, zH, zH, zH, zH, zH, zH, zH, zH, zH, zH, zH, zH, zH, zO _ [zi _, zi _, zr _ _], zAi 0 24 _]) rfl ?_
  refine z_iload_n F dX1_far_6 rfl ?_
  exact K
theorem c_pfar_bad (P : zPt) (t : Nat) (fp : Int32) (j n d : Nat) (f : Nat → Int32) (x : Int32) (hj : j < 8) (hP : P j = some (nI n, nI d, f)) (hx : inB x (nI 0) (nI 5) = false) : zCtr yX1_far cX1_far 4 (some .int) 8 3 118 [zr 1 0, zi (nI j), zi x] (xH P t fp) (fun r w => False) (fun E w => E = eNSE ∧ True ∧ w = xH P t fp) := by
  refine z_start (by decide) [some (zr 1 0), some (zi (nI j)), some (zi x), none] rfl (fun _ => Nat.le_of_ble_eq_true rfl) (fun _ => rfl) (fun X F E hno hin => ?_)
  refine z_aload_n F dX1_far_0 rfl ?_
  refine z_iload_n F dX1_far_1 rfl ?_
  refine z_callV F (c_netAt_ok P t fp j hj hP) 1 rfl (lw_V q429 q431 qs0 q109 q432) (by decide +kernel) ⟨Nat.le_of_ble_eq_true rfl, Nat.le_of_ble_eq_true rfl⟩ ⟨by omega, by omega⟩ [0, 1, 2, 3, 4, 5, 6, 7, 8, 9, 10, 11, 12, 13, 14, 15, 16, 17, 18, 19, 20, 21] 22 ⟨rfl, rfl, rfl, ⟨Or.inr (congrArg some (zrnP rfl).symm), Or.inr rfl, Or.inl rfl, Or.inl rfl, Or.inl rfl, Or.inl rfl, Or.inl rfl, Or.inl rfl, Or.inl rfl, Or.inl rfl, Or.inl rfl, Or.inl rfl, Or.inl rfl, Or.inl rfl, Or.inl rfl, Or.inl rfl, Or.inl rfl, Or.inl rfl, Or.inl rfl, Or.inl rfl, Or.inl rfl, Or.inl rfl, trivial⟩⟩ (fun _ => rfl) (Nat.le_of_ble_eq_true rfl) ⟨⟨Or.inl rfl, Or.inl rfl, Or.inr trivial, Or.inr trivial, Or.inr trivial, Or.inr trivial, Or.inr trivial, Or.inr trivial, Or.inr trivial, Or.inr trivial, Or.inr trivial, Or.inr trivial, Or.inr trivial, Or.inr trivial, Or.inr trivial, Or.inr trivial, Or.inr trivial, Or.inr trivial, Or.inr trivial, Or.inr trivial, Or.inr trivial, Or.inr trivial, trivial⟩, rfl, rfl, rfl, Nat.le_of_ble_eq_true rfl⟩ rfl zC1 rfl rfl dX1_far_2 (fun r_2 w_2 hp => ?_) (fun _ _ h => h.elim)
  obtain ⟨rfl, rfl⟩ := hp
  refine z_weq (w' := zPl (pR _) _ :: _) (congrArg (fun z => z :: _) (zrnP rfl)) ?_
  refine z_weq (w' := [zPl _ _, zO _ [zr _ _, zr _ _, zr _ _, zr _ _, zr _ _, zi _, zi _, zr _ _, zr _ _], zH, zH, zH, zH, zH, zH, zH, zH, zH, zH, zH, zH, zH, zH, zH, zH, zH, zH, zH, zH]) rfl ?_
  refine z_seq (S' := zr _ _ :: _) rfl ?_
  refine z_astore_n F dX1_far_5 (Nat.le_of_ble_eq_true rfl) ?_
  refine z_leq (L' := [_, _, _, _]) rfl ?_
  refine z_iload_n F dX1_far_6 rfl ?_
  refine z_tswOut F (tgt := 132) dX1_far_7 (by
  unfold inB at hx
  rw [decide_eq_false_iff_not] at hx
  rcases Decidable.em (x < nI 0) with q | q
  · exact Or.inl (by rw [Int32.lt_iff_toInt_lt] at q; exact q)
  · rcases Decidable.em (nI 5 < x) with q2 | q2
    · exact Or.inr (by rw [Int32.lt_iff_toInt_lt] at q2; exact q2)
    · exact absurd ⟨q, q2⟩ hx) (by decide) ?_
  exact z_throw0 F E hno thr_nse (by decide) rfl (Nat.le_of_ble_eq_true rfl) dX1_far_132 dX1_far_135 dX1_far_136 dX1_far_139 (by omega) (by omega) rfl ⟨(by first | exact pR_N _ (Nat.le_of_ble_eq_true rfl) | exact uR_N (Nat.le_of_ble_eq_true rfl) (Nat.le_of_ble_eq_true rfl)), rfl, trivial, trivial, trivial, trivial, trivial, trivial, trivial, trivial, trivial, trivial, trivial, trivial, trivial, trivial, trivial, trivial, trivial, trivial, trivial, trivial, trivial⟩ (⟨rfl, trivial, rfl⟩)
end C51
