/-! small nets: the reference -/
section C9n
theorem dst_chain {n a : Nat} {f : Nat → Int32} (hn : n ≤ 24) (ha : a < n) : ∀ e b, dst n f (allB n) a b = some e → b < n → ∀ i, i ≤ e → ∃ x, x < n ∧ dst n f (allB n) a x = some i := by
  intro e
  induction e with
  | zero => intro b h hb i hi; obtain rfl : i = 0 := by omega
            exact ⟨b, hb, h⟩
  | succ e ih =>
    intro b h hb i hi
    by_cases q : i = e + 1
    · subst q; exact ⟨b, hb, h⟩
    · obtain ⟨⟨c, c1, c2, c3⟩, hm⟩ := (dst_PP (al_t hn ha) (al_lt hn) (by omega)).mp h
      have hc := al_lt hn c c1.inr
      have h2 : dst n f (allB n) a c = some e := (dst_PP (al_t hn ha) (al_lt hn) (by omega)).mpr ⟨c1, fun j hj hp => hm (j + 1) (by omega) ⟨c, hp, c2, c3⟩⟩
      exact ih c h2 hc i (by omega)
theorem dst_n {n a b e : Nat} {f : Nat → Int32} (hn : n ≤ 24) (ha : a < n) (hb : b < n) (h : dst n f (allB n) a b = some e) : e < n := by
  have hx : ∀ i, ∃ x, i ≤ e → (x < n ∧ dst n f (allB n) a x = some i) := fun i => by
    by_cases q : i ≤ e
    · obtain ⟨x, x1, x2⟩ := dst_chain hn ha e b h hb i q
      exact ⟨x, fun _ => ⟨x1, x2⟩⟩
    · exact ⟨0, fun z => absurd z q⟩
  obtain ⟨g, hg⟩ := Classical.axiomOfChoice hx
  have := fb_holes n (e + 1) g (fun i hi => (hg i (by omega)).1) (fun i j hij hj z => by
    have h1 := (hg i (by omega)).2
    have h2 := (hg j (by omega)).2
    rw [z, h2] at h1; cases h1; omega)
  omega
theorem cfar_6 {n : Nat} {f : Nat → Int32} (hn : n < 7) (hs : ∀ a b, a < n → b < n → bt (f a) b = bt (f b) a) : cfar n f (allB n) ≤ 6 ∨ cfar n f (allB n) = 100 := by
  have hst : ∀ i, bt (allB n) i = true → i < n := fun i h => al_lt (by omega) i h
  cases e : mw n f (allB n) n with
  | none => refine Or.inr ?_; unfold cfar; rw [mw_none (h32 := by omega) hst e]
  | some v =>
    obtain ⟨F, S⟩ := v
    refine Or.inl ?_
    unfold cfar
    rw [(mw_some hst hs e).1]
    obtain ⟨-, h2, -⟩ := (mw_ok n).2 F S e
    show F ≤ 6
    rcases h2 with h2 | ⟨a, b, h3, h4, h5⟩
    · omega
    · have := dst_n (by omega) (hst a h3) (hst b h4) h5
      omega
theorem fit_k {n d k : Nat} {c : Int32} (hn : n < 7) : fit n d k c = fit n d (min k 6) c := by
  have h := cfar_6 (f := skr n c (pcn n n)) hn (fun a b _ _ => skr_sym hn a b)
  unfold fit
  congr 1
  by_cases q : cfar n (skr n c (pcn n n)) (allB n) ≤ min k 99
  · rw [decide_eq_true q, decide_eq_true (by omega)]
  · rw [decide_eq_false q, decide_eq_false (by omega)]
theorem fit_mw {n d k : Nat} {c : Int32} (hn : n < 7) : fit n d k c = (dgk d (skr n c (pcn n n)) n && (match mw n (skr n c (pcn n n)) (allB n) n with
    | none => false
    | some p => decide (p.1 ≤ k))) := by
  have hst : ∀ i, bt (allB n) i = true → i < n := fun i h => al_lt (by omega) i h
  unfold fit
  congr 1
  cases e : mw n (skr n c (pcn n n)) (allB n) n with
  | none =>
    unfold cfar
    rw [mw_none (h32 := by omega) hst e]
    exact decide_eq_false (by show ¬ 100 ≤ min k 99; omega)
  | some v =>
    obtain ⟨F, S⟩ := v
    have h1 := (mw_some hst (fun a b _ _ => skr_sym hn a b) e).1
    have h2 := cfa_lt _ _ _ 32 F h1
    unfold cfar
    rw [h1]
    show decide (F ≤ min k 99) = decide (F ≤ k)
    by_cases q : F ≤ k
    · rw [decide_eq_true q, decide_eq_true (by omega)]
    · rw [decide_eq_false q, decide_eq_false (by omega)]
theorem dgk_all {d : Nat} {f g : Nat → Int32} (h : ∀ v, v < 24 → f v = g v) : ∀ n, n ≤ 24 → dgk d f n = dgk d g n
  | 0, _ => rfl
  | n + 1, hn => by rw [dgk, dgk, dgk_all h n (by omega), h n (by omega)]
theorem st50 (A : Nat → Nat → Int32) (b : Nat) (x : Bool) (y : Int32) : zup2 (zup2 A 50 b (vp_nar .boolean (bI x))) 51 b y 50 b = bI x := by
  rw [zup2_pq, if_neg (by omega), zup2_pq, if_pos ⟨rfl, rfl⟩, nar_bI]
theorem c_mlooks (F0 : Nat → Int32) (G : Nat → Int64) (A : Nat → Nat → Int32) (B : Nat → Nat → Int64) (n d k : Nat) (h1 : 1 ≤ n) (hn : n < 7) (hd : d < 9) (hk : k < 2 ^ 31) : zCtr yX6_looks cX6_looks 8 none 3 0 0 [zr 1 0, zi (nI n), zi (nI d), zi (nI k)] [zH, zG F0 G A B] (fun r w => r = none ∧ ∃ F' A', w = [zH, zG F' G A' B] ∧ frm [4, 5, 24, 25, 46, 47, 48, 49] F0 F' ∧ frm [6, 23, 50, 51, 52, 53] A A' ∧ F' 46 = nI (smM n d k) ∧ F' 47 = nI (smK n d k) ∧ F' 48 = fwI (smF n d k) ∧ F' 49 = lsI (smF n d k)) zNx := by
  refine z_start (by decide) [some (zr 1 0), some (zi (nI n)), some (zi (nI d)), some (zi (nI k)), none, none, none, none] rfl (fun _ => Nat.le_of_ble_eq_true rfl) (fun _ => rfl) (fun X F E hno hin => ?_)
  obtain ⟨h3, h3b⟩ := p_3 n hn
  have hpw : 2 ^ pcn n n ≤ 32768 := Nat.pow_le_pow_right (n := 2) (by decide) h3
  have hnn : n * (n - 1) ≤ 6 * 5 := Nat.mul_le_mul (by omega) (by omega)
  have hsh : nI 1 <<< (nI (n * (n - 1) / 2) &&& 31) = nI (2 ^ pcn n n) := by rw [h3b]; exact b1_pw _ (by omega)
  have hall : ∀ i, i < 32 → bt (allB n) i = true → i < n := fun i _ q => al_lt (by omega) i q
  -- the kinds
  have kinds : ∀ (m b : Nat) (F1 : Nat → Int32) (A1 : Nat → Nat → Int32), 2 ^ pcn n n - b < m → b ≤ 2 ^ pcn n n → frm [4, 5, 24, 25, 46, 47, 48, 49] F0 F1 → frm [6, 23, 50, 51, 52, 53] A A1 → F1 46 = nI (smM n d k) → F1 47 = nI (kdF n (ftN n d k) b).1 → F1 48 = fwI (smF n d k) → F1 49 = lsI (smF n d k) → (∀ v, v < 2 ^ pcn n n → A1 50 v = bI (ftN n d k v)) → (∀ v, v < 2 ^ pcn n n → ((kdF n (ftN n d k) b).2 v → A1 51 v = bI true) ∧ (¬ (kdF n (ftN n d k) b).2 v → A1 51 v = bI false)) → Z X [some (zr 1 0), some (zi (nI n)), some (zi (nI d)), some (zi (nI k)), some (zi (nI (2 ^ pcn n n))), some (zi (nI b)), none, none] [] [zH, zG F1 G A1 B] 0 0 206 := by
    intro m
    induction m with
    | zero => intro b F1 A1 hm; omega
    | succ m ih =>
      intro b F1 A1 hm hb hF hA h46 h47 h48 h49 h50 h51
      have g50 := h50 b
      have g51 := h51 b
      have kn : ¬ (ftN n d k b = true ∧ ¬ (kdF n (ftN n d k) b).2 b) → b < 2 ^ pcn n n → Z X [some (zr 1 0), some (zi (nI n)), some (zi (nI d)), some (zi (nI k)), some (zi (nI (2 ^ pcn n n))), some (zi (nI (b + 1))), none, none] [] [zH, zG F1 G A1 B] 0 0 206 := fun z z2 => ih (b + 1) F1 A1 (by omega) (by omega) hF hA h46 (by rw [kdF_n z]; exact h47) h48 h49 h50 (by rw [kdF_n z]; exact h51)
      refine z_iload F dX6_looks_206 rfl ?_
      refine z_iload F dX6_looks_208 rfl ?_
      refine z_icmp_geN F (by omega) (by omega) (tgt := 264) dX6_looks_210 (by decide) (fun c_210 => ?_) (fun c_210 => ?_)
      · have e : b = 2 ^ pcn n n := by omega
        rw [e] at h47
        exact z_vret F E rfl dX6_looks_264 (by omega) (by omega) (⟨rfl, F1, A1, rfl, hF, hA, h46, h47, h48, h49⟩)
      · have g50 := g50 (by omega)
        obtain ⟨g51a, g51b⟩ := g51 (by omega)
        refine z_aload_n F dX6_looks_213 rfl ?_
        refine z_ma F rfl 50 rfl (Nat.le_of_ble_eq_true rfl) rfl q1530 dX6_looks_214 ?_
        refine z_iload F dX6_looks_217 rfl ?_
        refine z_zaldGN F rfl rfl (Nat.le_of_ble_eq_true rfl) (by omega) rfl dX6_looks_219 ?_
        refine z_ieq g50 ?_
        refine z_if_eqB F (tgt := 258) dX6_looks_220 (by decide) (fun c_220 => ?_) (fun c_220 => ?_)
        · refine z_iincN F 1 dX6_looks_258 rfl rfl ?_
          refine z_leq (L' := [_, _, _, _, _, _, _, _]) rfl ?_
          refine z_goto F (tgt := 206) dX6_looks_261 (by decide) ?_
          exact kn (fun z => by rw [show ftN n d k b = false from c_220] at z; cases z.1) (by omega)
        · have cft : ftN n d k b = true := c_220
          refine z_aload_n F dX6_looks_223 rfl ?_
          refine z_ma F rfl 51 rfl (Nat.le_of_ble_eq_true rfl) rfl q1531 dX6_looks_224 ?_
          refine z_iload F dX6_looks_227 rfl ?_
          refine z_zaldGN F rfl rfl (Nat.le_of_ble_eq_true rfl) (by omega) rfl dX6_looks_229 ?_
          refine z_if_eq F (tgt := 236) dX6_looks_230 (by decide) (fun c_230 => ?_) (fun c_230 => ?_)
          · have hyes : ¬ (kdF n (ftN n d k) b).2 b := fun z => by rw [g51a z] at c_230; exact absurd c_230 (by decide)
            refine z_aload_n F dX6_looks_236 rfl ?_
            refine z_dup F dX6_looks_237 rfl ?_
            refine z_mi F rfl 47 rfl (Nat.le_of_ble_eq_true rfl) rfl q1527 dX6_looks_238 ?_
            refine z_ieq (h47) ?_
            refine z_iconst F (nI 1) dX6_looks_241 rfl ?_
            refine z_iaddN F dX6_looks_242 ?_
            refine z_pmi F rfl 47 rfl (Nat.le_of_ble_eq_true rfl) rfl q1527 rfl rfl rfl dX6_looks_243 ?_
            refine z_weq (w' := [_, _]) rfl ?_
            refine z_aload_n F dX6_looks_246 rfl ?_
            refine z_iload_n F dX6_looks_247 rfl ?_
            refine z_iload F dX6_looks_248 rfl ?_
            refine z_callV F (c_msketch _ _ _ _ n b h1 hn) 2 rfl (lw_V q1998 q2000 qs82 q117 q2001) (by decide +kernel) ⟨Nat.le_of_ble_eq_true rfl, Nat.le_of_ble_eq_true rfl⟩ ⟨by omega, by omega⟩ [0, 1] 2 ⟨rfl, rfl, rfl, ⟨Or.inl rfl, Or.inr rfl, trivial⟩⟩ (fun h => nomatch h) (Nat.le_of_ble_eq_true rfl) ⟨⟨Or.inr trivial, Or.inl rfl, trivial⟩, rfl, rfl, rfl, Nat.le_of_ble_eq_true rfl⟩ rfl zC6 (zat_G0 rfl) rfl dX6_looks_250 (fun r_250 w_250 hp => ?_) (fun _ _ h => h.elim)
            obtain ⟨rfl, F2, A2, rfl, f2, a2, s1, s2, s3⟩ := hp
            refine z_weq (w' := [zH, zG _ _ _ _]) rfl ?_
            refine z_seq (S' := []) rfl ?_
            refine z_aload_n F dX6_looks_253 rfl ?_
            refine z_iload_n F dX6_looks_254 rfl ?_
            refine z_callV F (c_mnotes F2 _ A2 _ n b h1 hn s2 s3) 1 rfl (lw_V q2002 q2004 qs83 q117 q2005) (by decide +kernel) ⟨Nat.le_of_ble_eq_true rfl, Nat.le_of_ble_eq_true rfl⟩ ⟨by omega, by omega⟩ [0, 1] 2 ⟨rfl, rfl, rfl, ⟨Or.inl rfl, Or.inr rfl, trivial⟩⟩ (fun h => nomatch h) (Nat.le_of_ble_eq_true rfl) ⟨⟨Or.inr trivial, Or.inl rfl, trivial⟩, rfl, rfl, rfl, Nat.le_of_ble_eq_true rfl⟩ rfl zC6 (zat_G0 rfl) rfl dX6_looks_255 (fun r_255 w_255 hp => ?_) (fun _ _ h => h.elim)
            obtain ⟨rfl, A3, rfl, a3, s4⟩ := hp
            refine z_weq (w' := [zH, zG _ _ _ _]) rfl ?_
            refine z_seq (S' := []) rfl ?_
            refine z_iincN F 1 dX6_looks_258 rfl rfl ?_
            refine z_leq (L' := [_, _, _, _, _, _, _, _]) rfl ?_
            refine z_goto F (tgt := 206) dX6_looks_261 (by decide) ?_
            refine z_loc _ ?_ (ih (b + 1) F2 A3 (by omega) (by omega) ((frm_upd hF (by decide)).tr f2 (by decide) (by decide)) ((hA.tr a2 (l2 := [6, 23, 50, 51, 52, 53]) (by decide) (by decide)).tr a3 (by decide) (by decide)) (by rw [f2.at 46 rfl]; exact h46) (by rw [f2.at 47 rfl, kdF_y cft hyes]; rfl) (by rw [f2.at 48 rfl]; exact h48) (by rw [f2.at 49 rfl]; exact h49) (fun v hv => by rw [a3.at 50 rfl, a2.at 50 rfl]; exact h50 v hv) (fun v hv => ?_))
            · exact ⟨rfl, rfl, rfl, rfl, rfl, rfl, trivial⟩
            · rw [kdF_y cft hyes]
              obtain ⟨t1, t2⟩ := s4 v (by omega)
              obtain ⟨t3, t4⟩ := h51 v hv
              rw [a2.at 51 rfl] at t2
              refine ⟨fun z => ?_, fun z => ?_⟩
              · by_cases y : orb n b v
                · exact t1 y
                · rw [t2 y]; exact t3 (Or.elim z id (fun w => absurd w y))
              · rw [t2 (fun w => z (Or.inr w))]; exact t4 (fun w => z (Or.inl w))
          · refine z_goto F (tgt := 258) dX6_looks_233 (by decide) ?_
            refine z_iincN F 1 dX6_looks_258 rfl rfl ?_
            refine z_leq (L' := [_, _, _, _, _, _, _, _]) rfl ?_
            refine z_goto F (tgt := 206) dX6_looks_261 (by decide) ?_
            exact kn (fun z => by rw [g51b z.2] at c_230; exact c_230 rfl) (by omega)
  have tail : ∀ (F1 : Nat → Int32) (A1 : Nat → Nat → Int32) (b mn : Nat), b < 2 ^ pcn n n → F1 46 = nI mn → F1 48 = fwI (fwF (ftN n d k) b) → F1 49 = lsI (fwF (ftN n d k) b) → (∀ F2, frm [46, 48, 49] F1 F2 → F2 46 = nI (mn + 1) → F2 48 = fwI (match fwF (ftN n d k) b with
        | none => some (pc32 (nI b), b)
        | some (l, m) => if pc32 (nI b) < l then some (pc32 (nI b), b) else some (l, m)) → F2 49 = lsI (match fwF (ftN n d k) b with
        | none => some (pc32 (nI b), b)
        | some (l, m) => if pc32 (nI b) < l then some (pc32 (nI b), b) else some (l, m)) → Z X [some (zr 1 0), some (zi (nI n)), some (zi (nI d)), some (zi (nI k)), some (zi (nI (2 ^ pcn n n))), some (zi (nI (b + 1))), none, none] [] [zH, zG F2 G A1 B] 0 0 34) →
      Z X [some (zr 1 0), some (zi (nI n)), some (zi (nI d)), some (zi (nI k)), some (zi (nI (2 ^ pcn n n))), some (zi (nI b)), none, none] [] [zH, zG F1 G A1 B] 0 0 149 := by
    intro F1 A1 b mn hb h46 h48 h49 kk
    have p1 := pc32_le (nI b)
    rcases hfw : fwF (ftN n d k) b with _ | ⟨l0, m0⟩
    ·
      rw [hfw] at kk h48 h49
      have hfw0 : F1 48 = -1 := h48
      refine z_aload_n F dX6_looks_149 rfl ?_
      refine z_dup F dX6_looks_150 rfl ?_
      refine z_mi F rfl 46 rfl (Nat.le_of_ble_eq_true rfl) rfl q1526 dX6_looks_151 ?_
      refine z_ieq (h46) ?_
      refine z_iconst F (nI 1) dX6_looks_154 rfl ?_
      refine z_iaddN F dX6_looks_155 ?_
      refine z_pmi F rfl 46 rfl (Nat.le_of_ble_eq_true rfl) rfl q1526 rfl rfl rfl dX6_looks_156 ?_
      refine z_weq (w' := [_, _]) rfl ?_
      refine z_aload_n F dX6_looks_159 rfl ?_
      refine z_mi F rfl 48 rfl (Nat.le_of_ble_eq_true rfl) rfl q1528 dX6_looks_160 ?_
      refine z_iconst F (-1) dX6_looks_163 rfl ?_
      refine z_icmp_eq F (tgt := 182) dX6_looks_164 (by decide) (fun c_164 => ?_) (fun c_164 => ?_)
      · refine z_aload_n F dX6_looks_182 rfl ?_
        refine z_iload F dX6_looks_183 rfl ?_
        refine z_callS F (c_bits (nI b)) 1 rfl (lw_S q1752 q1753 q117 q1754) (by decide +kernel) ⟨Nat.le_of_ble_eq_true rfl, Nat.le_of_ble_eq_true rfl⟩ ⟨by omega, by omega⟩ [0] 2 ⟨rfl, rfl, rfl, ⟨Or.inl rfl, trivial⟩⟩ (fun h => nomatch h) (Nat.le_of_ble_eq_true rfl) ⟨⟨Or.inr trivial, Or.inr trivial, trivial⟩, rfl, rfl, rfl, Nat.le_of_ble_eq_true rfl⟩ rfl rfl dX6_looks_185 (fun r_185 w_185 hp => ?_) (fun _ _ h => h.elim)
        obtain ⟨rfl, rfl⟩ := hp
        refine z_weq (w' := [zH, zG _ _ _ _]) rfl ?_
        refine z_seq (S' := zi _ :: _) rfl ?_
        refine z_pmi F rfl 48 rfl (Nat.le_of_ble_eq_true rfl) rfl q1528 rfl rfl rfl dX6_looks_188 ?_
        refine z_weq (w' := [_, _]) rfl ?_
        refine z_aload_n F dX6_looks_191 rfl ?_
        refine z_iload F dX6_looks_192 rfl ?_
        refine z_pmi F rfl 49 rfl (Nat.le_of_ble_eq_true rfl) rfl q1529 rfl rfl rfl dX6_looks_194 ?_
        refine z_weq (w' := [_, _]) rfl ?_
        refine z_iincN F 1 dX6_looks_197 rfl rfl ?_
        refine z_leq (L' := [_, _, _, _, _, _, _, _]) rfl ?_
        refine z_goto F (tgt := 34) dX6_looks_200 (by decide) ?_
        exact kk _ (frm_upd (frm_upd (frm_upd frm.rf (by decide)) (by decide)) (by decide)) rfl rfl rfl
      · exact absurd hfw0 c_164
    rw [hfw] at kk h48 h49
    have hq := fwF_pc b l0 m0 hfw
    have h48' : F1 48 = nI l0 := h48
    refine z_aload_n F dX6_looks_149 rfl ?_
    refine z_dup F dX6_looks_150 rfl ?_
    refine z_mi F rfl 46 rfl (Nat.le_of_ble_eq_true rfl) rfl q1526 dX6_looks_151 ?_
    refine z_ieq (h46) ?_
    refine z_iconst F (nI 1) dX6_looks_154 rfl ?_
    refine z_iaddN F dX6_looks_155 ?_
    refine z_pmi F rfl 46 rfl (Nat.le_of_ble_eq_true rfl) rfl q1526 rfl rfl rfl dX6_looks_156 ?_
    refine z_weq (w' := [_, _]) rfl ?_
    refine z_aload_n F dX6_looks_159 rfl ?_
    refine z_mi F rfl 48 rfl (Nat.le_of_ble_eq_true rfl) rfl q1528 dX6_looks_160 ?_
    refine z_ieq (h48') ?_
    refine z_iconst F (-1) dX6_looks_163 rfl ?_
    refine z_icmp_eq F (tgt := 182) dX6_looks_164 (by decide) (fun c_164 => ?_) (fun c_164 => ?_)
    · exact absurd c_164 (nI_ne (by omega))
    · refine z_iload F dX6_looks_167 rfl ?_
      refine z_callS F (c_bits (nI b)) 1 rfl (lw_S q1752 q1753 q117 q1754) (by decide +kernel) ⟨Nat.le_of_ble_eq_true rfl, Nat.le_of_ble_eq_true rfl⟩ ⟨by omega, by omega⟩ [0] 2 ⟨rfl, rfl, rfl, ⟨Or.inl rfl, trivial⟩⟩ (fun h => nomatch h) (Nat.le_of_ble_eq_true rfl) ⟨⟨Or.inr trivial, Or.inr trivial, trivial⟩, rfl, rfl, rfl, Nat.le_of_ble_eq_true rfl⟩ rfl rfl dX6_looks_169 (fun r_169 w_169 hp => ?_) (fun _ _ h => h.elim)
      obtain ⟨rfl, rfl⟩ := hp
      refine z_weq (w' := [zH, zG _ _ _ _]) rfl ?_
      refine z_seq (S' := zi _ :: _) rfl ?_
      refine z_aload_n F dX6_looks_172 rfl ?_
      refine z_mi F rfl 48 rfl (Nat.le_of_ble_eq_true rfl) rfl q1528 dX6_looks_173 ?_
      refine z_ieq (h48') ?_
      refine z_icmp_ltN F (by omega) (by omega) (tgt := 182) dX6_looks_176 (by decide) (fun c_176 => ?_) (fun c_176 => ?_)
      · refine z_aload_n F dX6_looks_182 rfl ?_
        refine z_iload F dX6_looks_183 rfl ?_
        refine z_callS F (c_bits (nI b)) 1 rfl (lw_S q1752 q1753 q117 q1754) (by decide +kernel) ⟨Nat.le_of_ble_eq_true rfl, Nat.le_of_ble_eq_true rfl⟩ ⟨by omega, by omega⟩ [0] 2 ⟨rfl, rfl, rfl, ⟨Or.inl rfl, trivial⟩⟩ (fun h => nomatch h) (Nat.le_of_ble_eq_true rfl) ⟨⟨Or.inr trivial, Or.inr trivial, trivial⟩, rfl, rfl, rfl, Nat.le_of_ble_eq_true rfl⟩ rfl rfl dX6_looks_185 (fun r_185 w_185 hp => ?_) (fun _ _ h => h.elim)
        obtain ⟨rfl, rfl⟩ := hp
        refine z_weq (w' := [zH, zG _ _ _ _]) rfl ?_
        refine z_seq (S' := zi _ :: _) rfl ?_
        refine z_pmi F rfl 48 rfl (Nat.le_of_ble_eq_true rfl) rfl q1528 rfl rfl rfl dX6_looks_188 ?_
        refine z_weq (w' := [_, _]) rfl ?_
        refine z_aload_n F dX6_looks_191 rfl ?_
        refine z_iload F dX6_looks_192 rfl ?_
        refine z_pmi F rfl 49 rfl (Nat.le_of_ble_eq_true rfl) rfl q1529 rfl rfl rfl dX6_looks_194 ?_
        refine z_weq (w' := [_, _]) rfl ?_
        refine z_iincN F 1 dX6_looks_197 rfl rfl ?_
        refine z_leq (L' := [_, _, _, _, _, _, _, _]) rfl ?_
        refine z_goto F (tgt := 34) dX6_looks_200 (by decide) ?_
        refine kk _ (frm_upd (frm_upd (frm_upd frm.rf (by decide)) (by decide)) (by decide)) rfl ?_ ?_
        · show nI (pc32 (nI b)) = fwI (if pc32 (nI b) < l0 then _ else _)
          rw [if_pos (by omega)]; rfl
        · show nI b = lsI (if pc32 (nI b) < l0 then _ else _)
          rw [if_pos (by omega)]; rfl
      · refine z_goto F (tgt := 197) dX6_looks_179 (by decide) ?_
        refine z_iincN F 1 dX6_looks_197 rfl rfl ?_
        refine z_leq (L' := [_, _, _, _, _, _, _, _]) rfl ?_
        refine z_goto F (tgt := 34) dX6_looks_200 (by decide) ?_
        refine kk _ (frm_upd frm.rf (by decide)) rfl ?_ ?_
        · show F1 48 = fwI (if pc32 (nI b) < l0 then _ else _)
          rw [if_neg (by omega)]; exact h48
        · show F1 49 = lsI (if pc32 (nI b) < l0 then _ else _)
          rw [if_neg (by omega)]; exact h49
  have chk : ∀ (F1 : Nat → Int32) (A1 : Nat → Nat → Int32) (b : Nat), (∀ v, v < 24 → A1 6 v = skr n (nI b) (pcn n n) v) → (∀ v, v < n → A1 6 v = skr n (nI b) (pcn n n) v) → (Z X [some (zr 1 0), some (zi (nI n)), some (zi (nI d)), some (zi (nI k)), some (zi (nI (2 ^ pcn n n))), some (zi (nI b)), some (zi (bI (dgk d (skr n (nI b) (pcn n n)) n))), none] [] [zH, zG F1 G A1 B] 0 0 92) → ∀ (m a : Nat), n - a < m → a ≤ n → Z X [some (zr 1 0), some (zi (nI n)), some (zi (nI d)), some (zi (nI k)), some (zi (nI (2 ^ pcn n n))), some (zi (nI b)), some (zi (bI (dgk d (skr n (nI b) (pcn n n)) a))), some (zi (nI a))] [] [zH, zG F1 G A1 B] 0 0 54 := by
    intro F1 A1 b hR hRn kk m
    induction m with
    | zero => intro a hm; omega
    | succ m ih =>
      intro a hm ha
      have i1 := fun z => ih (a + 1) (by omega) z
      rw [dgk] at i1
      have gR := fun z => hRn a z
      have p1 := pc32_le (skr n (nI b) (pcn n n) a)
      refine z_iload F dX6_looks_54 rfl ?_
      refine z_iload_n F dX6_looks_56 rfl ?_
      refine z_icmp_geN F (by omega) (by omega) (tgt := 92) dX6_looks_57 (by decide) (fun c_57 => ?_) (fun c_57 => ?_)
      · rw [show a = n by omega]
        refine z_loc _ ?_ kk
        exact ⟨rfl, rfl, rfl, rfl, rfl, rfl, rfl, trivial⟩
      · have i1 := i1 (by omega)
        have gR := gR (by omega)
        refine z_iload F dX6_looks_60 rfl ?_
        refine z_if_eqB F (tgt := 83) dX6_looks_62 (by decide) (fun c_62 => ?_) (fun c_62 => ?_)
        · refine z_iconstB F false dX6_looks_83 rfl ?_
          refine z_istore F dX6_looks_84 (Nat.le_of_ble_eq_true rfl) ?_
          refine z_leq (L' := [_, _, _, _, _, _, _, _]) rfl ?_
          refine z_iincN F 1 dX6_looks_86 rfl rfl ?_
          refine z_leq (L' := [_, _, _, _, _, _, _, _]) rfl ?_
          refine z_goto F (tgt := 54) dX6_looks_89 (by decide) ?_
          rw [c_62, Bool.false_and] at i1
          exact i1
        · refine z_aload_n F dX6_looks_65 rfl ?_
          refine z_ma F rfl 6 rfl (Nat.le_of_ble_eq_true rfl) rfl q1486 dX6_looks_66 ?_
          refine z_iload F dX6_looks_69 rfl ?_
          refine z_ialdGN F rfl rfl (Nat.le_of_ble_eq_true rfl) (by omega) rfl dX6_looks_71 ?_
          rw [gR]
          refine z_callS F (c_bits (skr n (nI b) (pcn n n) a)) 1 rfl (lw_S q1752 q1753 q117 q1754) (by decide +kernel) ⟨Nat.le_of_ble_eq_true rfl, Nat.le_of_ble_eq_true rfl⟩ ⟨by omega, by omega⟩ [0] 2 ⟨rfl, rfl, rfl, ⟨Or.inl rfl, trivial⟩⟩ (fun h => nomatch h) (Nat.le_of_ble_eq_true rfl) ⟨⟨Or.inr trivial, Or.inr trivial, trivial⟩, rfl, rfl, rfl, Nat.le_of_ble_eq_true rfl⟩ rfl rfl dX6_looks_72 (fun r_72 w_72 hp => ?_) (fun _ _ h => h.elim)
          obtain ⟨rfl, rfl⟩ := hp
          refine z_weq (w' := [zH, zG _ _ _ _]) rfl ?_
          refine z_seq (S' := zi _ :: _) rfl ?_
          refine z_iload_n F dX6_looks_75 rfl ?_
          refine z_icmp_gtN F (by omega) (by omega) (tgt := 83) dX6_looks_76 (by decide) (fun c_76 => ?_) (fun c_76 => ?_)
          · refine z_iconstB F false dX6_looks_83 rfl ?_
            refine z_istore F dX6_looks_84 (Nat.le_of_ble_eq_true rfl) ?_
            refine z_leq (L' := [_, _, _, _, _, _, _, _]) rfl ?_
            refine z_iincN F 1 dX6_looks_86 rfl rfl ?_
            refine z_leq (L' := [_, _, _, _, _, _, _, _]) rfl ?_
            refine z_goto F (tgt := 54) dX6_looks_89 (by decide) ?_
            rw [decide_eq_false (show ¬ pc32 (skr n (nI b) (pcn n n) a) ≤ d by omega), Bool.and_false] at i1
            exact i1
          · refine z_iconstB F true dX6_looks_79 rfl ?_
            refine z_goto F (tgt := 84) dX6_looks_80 (by decide) ?_
            refine z_istore F dX6_looks_84 (Nat.le_of_ble_eq_true rfl) ?_
            refine z_leq (L' := [_, _, _, _, _, _, _, _]) rfl ?_
            refine z_iincN F 1 dX6_looks_86 rfl rfl ?_
            refine z_leq (L' := [_, _, _, _, _, _, _, _]) rfl ?_
            refine z_goto F (tgt := 54) dX6_looks_89 (by decide) ?_
            rw [c_62, decide_eq_true (show pc32 (skr n (nI b) (pcn n n) a) ≤ d by omega)] at i1
            exact i1
  have mid : ∀ (F2 : Nat → Int32) (A2 : Nat → Nat → Int32) (b : Nat), b < 2 ^ pcn n n → F2 4 = nI n → (∀ v, v < 24 → A2 6 v = skr n (nI b) (pcn n n) v) →
      (∀ F3 A3, ftN n d k b = false → frm [24, 25] F2 F3 → frm [23] A2 A3 → Z X [some (zr 1 0), some (zi (nI n)), some (zi (nI d)), some (zi (nI k)), some (zi (nI (2 ^ pcn n n))), some (zi (nI (b + 1))), none, none] [] [zH, zG F3 G (zup2 (zup2 A3 50 b (vp_nar .boolean (bI false))) 51 b (vp_nar .boolean (nI 0))) B] 0 0 34) →
      (∀ F3 A3, ftN n d k b = true → frm [24, 25] F2 F3 → frm [23] A2 A3 → Z X [some (zr 1 0), some (zi (nI n)), some (zi (nI d)), some (zi (nI k)), some (zi (nI (2 ^ pcn n n))), some (zi (nI b)), none, none] [] [zH, zG F3 G (zup2 (zup2 A3 50 b (vp_nar .boolean (bI true))) 51 b (vp_nar .boolean (nI 0))) B] 0 0 149) →
      Z X [some (zr 1 0), some (zi (nI n)), some (zi (nI d)), some (zi (nI k)), some (zi (nI (2 ^ pcn n n))), some (zi (nI b)), some (zi (bI (dgk d (skr n (nI b) (pcn n n)) n))), none] [] [zH, zG F2 G A2 B] 0 0 92 := by
    intro F2 A2 b hb h4 hR kf kt
    have hst : ∀ i, bt (allB n) i = true → i < n := fun i h => al_lt (by omega) i h
    have ef : ftN n d k b = _ := fit_mw hn
    have hpb : ∀ p, mw n (skr n (nI b) (pcn n n)) (allB n) n = some p → p.1 < 32 := fun p hp0 => cfa_lt _ _ _ 32 _ (mw_some hst (fun a b _ _ => skr_sym hn a b) (show mw _ _ _ _ = some (p.1, p.2) from hp0)).1
    refine z_aload_n F dX6_looks_92 rfl ?_
    refine z_ma F rfl 50 rfl (Nat.le_of_ble_eq_true rfl) rfl q1530 dX6_looks_93 ?_
    refine z_iload F dX6_looks_96 rfl ?_
    refine z_iload F dX6_looks_98 rfl ?_
    refine z_if_eqB F (tgt := 126) dX6_looks_100 (by decide) (fun c_100 => ?_) (fun c_100 => ?_)
    · refine z_iconstB F false dX6_looks_126 rfl ?_
      refine z_zastGN F rfl rfl (Nat.le_of_ble_eq_true rfl) (by omega) dX6_looks_127 ?_
      refine z_weq (w' := [_, _]) rfl ?_
      refine z_aload_n F dX6_looks_128 rfl ?_
      refine z_ma F rfl 51 rfl (Nat.le_of_ble_eq_true rfl) rfl q1531 dX6_looks_129 ?_
      refine z_iload F dX6_looks_132 rfl ?_
      refine z_iconst F (nI 0) dX6_looks_134 rfl ?_
      refine z_zastGN F rfl rfl (Nat.le_of_ble_eq_true rfl) (by omega) dX6_looks_135 ?_
      refine z_weq (w' := [_, _]) rfl ?_
      refine z_aload_n F dX6_looks_136 rfl ?_
      refine z_ma F rfl 50 rfl (Nat.le_of_ble_eq_true rfl) rfl q1530 dX6_looks_137 ?_
      refine z_iload F dX6_looks_140 rfl ?_
      refine z_zaldGN F rfl rfl (Nat.le_of_ble_eq_true rfl) (by omega) rfl dX6_looks_142 ?_
      refine z_ieq (y := bI false) (st50 A2 b false _) ?_
      refine z_if_neB F (tgt := 149) dX6_looks_143 (by decide) (fun c_143 => ?_) (fun c_143 => ?_)
      · cases c_143
      · refine z_goto F (tgt := 197) dX6_looks_146 (by decide) ?_
        refine z_iincN F 1 dX6_looks_197 rfl rfl ?_
        refine z_leq (L' := [_, _, _, _, _, _, _, _]) rfl ?_
        refine z_goto F (tgt := 34) dX6_looks_200 (by decide) ?_
        refine z_loc _ ?_ (kf F2 A2 (by rw [ef, c_100]; rfl) frm.rf frm.rf)
        exact ⟨rfl, rfl, rfl, rfl, rfl, rfl, trivial⟩
    · refine z_aload_n F dX6_looks_103 rfl ?_
      refine z_aload_n F dX6_looks_104 rfl ?_
      refine z_callV F (c_mall F2 _ _ _ n (by omega) h4) 0 rfl (lw_V q1880 q1882 qs63 q117 q1883) (by decide +kernel) ⟨Nat.le_of_ble_eq_true rfl, Nat.le_of_ble_eq_true rfl⟩ ⟨by omega, by omega⟩ [0, 1] 2 ⟨rfl, rfl, rfl, ⟨Or.inl rfl, Or.inr rfl, trivial⟩⟩ (fun h => nomatch h) (Nat.le_of_ble_eq_true rfl) ⟨⟨Or.inr trivial, Or.inl rfl, trivial⟩, rfl, rfl, rfl, Nat.le_of_ble_eq_true rfl⟩ rfl zC6 (zat_G0 rfl) rfl dX6_looks_105 (fun r_105 w_105 hp => ?_) (fun _ _ h => h.elim)
      obtain ⟨rfl, rfl⟩ := hp
      refine z_weq (w' := [zH, zG _ _ _ _]) rfl ?_
      refine z_seq (S' := zi _ :: _) rfl ?_
      refine z_callV F (c_isWhole F2 _ A2 _ n (skr n (nI b) (pcn n n)) (allB n) (by omega) hall h4 (fun v hv => hR v (by omega))) 1 rfl (lw_V q1920 q1922 qs72 q117 q1923) (by decide +kernel) ⟨Nat.le_of_ble_eq_true rfl, Nat.le_of_ble_eq_true rfl⟩ ⟨by omega, by omega⟩ [0, 1] 2 ⟨rfl, rfl, rfl, ⟨Or.inl rfl, Or.inr rfl, trivial⟩⟩ (fun h => nomatch h) (Nat.le_of_ble_eq_true rfl) ⟨⟨Or.inr trivial, Or.inl rfl, trivial⟩, rfl, rfl, rfl, Nat.le_of_ble_eq_true rfl⟩ rfl zC6 (zat_G0 rfl) rfl dX6_looks_108 (fun r_108 w_108 hp => ?_) (fun _ _ h => h.elim)
      obtain ⟨rfl, F3, A3, rfl, g1, g2, g3⟩ := hp
      refine z_weq (w' := [zH, zG _ _ _ _]) rfl ?_
      refine z_seq (S' := zi _ :: _) rfl ?_
      refine z_if_eqB F (tgt := 126) dX6_looks_111 (by decide) (fun c_111 => ?_) (fun c_111 => ?_)
      · refine z_iconstB F false dX6_looks_126 rfl ?_
        refine z_zastGN F rfl rfl (Nat.le_of_ble_eq_true rfl) (by omega) dX6_looks_127 ?_
        refine z_weq (w' := [_, _]) rfl ?_
        refine z_aload_n F dX6_looks_128 rfl ?_
        refine z_ma F rfl 51 rfl (Nat.le_of_ble_eq_true rfl) rfl q1531 dX6_looks_129 ?_
        refine z_iload F dX6_looks_132 rfl ?_
        refine z_iconst F (nI 0) dX6_looks_134 rfl ?_
        refine z_zastGN F rfl rfl (Nat.le_of_ble_eq_true rfl) (by omega) dX6_looks_135 ?_
        refine z_weq (w' := [_, _]) rfl ?_
        refine z_aload_n F dX6_looks_136 rfl ?_
        refine z_ma F rfl 50 rfl (Nat.le_of_ble_eq_true rfl) rfl q1530 dX6_looks_137 ?_
        refine z_iload F dX6_looks_140 rfl ?_
        refine z_zaldGN F rfl rfl (Nat.le_of_ble_eq_true rfl) (by omega) rfl dX6_looks_142 ?_
        refine z_ieq (y := bI false) (st50 A3 b false _) ?_
        refine z_if_neB F (tgt := 149) dX6_looks_143 (by decide) (fun c_143 => ?_) (fun c_143 => ?_)
        · cases c_143
        · refine z_goto F (tgt := 197) dX6_looks_146 (by decide) ?_
          refine z_iincN F 1 dX6_looks_197 rfl rfl ?_
          refine z_leq (L' := [_, _, _, _, _, _, _, _]) rfl ?_
          refine z_goto F (tgt := 34) dX6_looks_200 (by decide) ?_
          refine z_loc _ ?_ (kf F3 A3 (by
            rw [ef]
            cases e : mw n (skr n (nI b) (pcn n n)) (allB n) n with
            | none => exact Bool.and_false _
            | some p => rw [e] at c_111; cases c_111) g1 g2)
          exact ⟨rfl, rfl, rfl, rfl, rfl, rfl, trivial⟩
      · obtain ⟨p, hp0⟩ := Option.isSome_iff_exists.mp c_111
        have g24 := (g3 p hp0).1
        have hp32 := hpb p hp0
        refine z_aload_n F dX6_looks_114 rfl ?_
        refine z_mi F rfl 24 rfl (Nat.le_of_ble_eq_true rfl) rfl q1504 dX6_looks_115 ?_
        refine z_ieq (g24) ?_
        refine z_iload_n F dX6_looks_118 rfl ?_
        refine z_icmp_gtN F (by omega) (by omega) (tgt := 126) dX6_looks_119 (by decide) (fun c_119 => ?_) (fun c_119 => ?_)
        · refine z_iconstB F false dX6_looks_126 rfl ?_
          refine z_zastGN F rfl rfl (Nat.le_of_ble_eq_true rfl) (by omega) dX6_looks_127 ?_
          refine z_weq (w' := [_, _]) rfl ?_
          refine z_aload_n F dX6_looks_128 rfl ?_
          refine z_ma F rfl 51 rfl (Nat.le_of_ble_eq_true rfl) rfl q1531 dX6_looks_129 ?_
          refine z_iload F dX6_looks_132 rfl ?_
          refine z_iconst F (nI 0) dX6_looks_134 rfl ?_
          refine z_zastGN F rfl rfl (Nat.le_of_ble_eq_true rfl) (by omega) dX6_looks_135 ?_
          refine z_weq (w' := [_, _]) rfl ?_
          refine z_aload_n F dX6_looks_136 rfl ?_
          refine z_ma F rfl 50 rfl (Nat.le_of_ble_eq_true rfl) rfl q1530 dX6_looks_137 ?_
          refine z_iload F dX6_looks_140 rfl ?_
          refine z_zaldGN F rfl rfl (Nat.le_of_ble_eq_true rfl) (by omega) rfl dX6_looks_142 ?_
          refine z_ieq (y := bI false) (st50 A3 b false _) ?_
          refine z_if_neB F (tgt := 149) dX6_looks_143 (by decide) (fun c_143 => ?_) (fun c_143 => ?_)
          · cases c_143
          · refine z_goto F (tgt := 197) dX6_looks_146 (by decide) ?_
            refine z_iincN F 1 dX6_looks_197 rfl rfl ?_
            refine z_leq (L' := [_, _, _, _, _, _, _, _]) rfl ?_
            refine z_goto F (tgt := 34) dX6_looks_200 (by decide) ?_
            refine z_loc _ ?_ (kf F3 A3 (by
              rw [ef, hp0]
              show (_ && decide (p.1 ≤ k)) = false
              rw [decide_eq_false (by omega), Bool.and_false]) g1 g2)
            exact ⟨rfl, rfl, rfl, rfl, rfl, rfl, trivial⟩
        · refine z_iconstB F true dX6_looks_122 rfl ?_
          refine z_goto F (tgt := 127) dX6_looks_123 (by decide) ?_
          refine z_zastGN F rfl rfl (Nat.le_of_ble_eq_true rfl) (by omega) dX6_looks_127 ?_
          refine z_weq (w' := [_, _]) rfl ?_
          refine z_aload_n F dX6_looks_128 rfl ?_
          refine z_ma F rfl 51 rfl (Nat.le_of_ble_eq_true rfl) rfl q1531 dX6_looks_129 ?_
          refine z_iload F dX6_looks_132 rfl ?_
          refine z_iconst F (nI 0) dX6_looks_134 rfl ?_
          refine z_zastGN F rfl rfl (Nat.le_of_ble_eq_true rfl) (by omega) dX6_looks_135 ?_
          refine z_weq (w' := [_, _]) rfl ?_
          refine z_aload_n F dX6_looks_136 rfl ?_
          refine z_ma F rfl 50 rfl (Nat.le_of_ble_eq_true rfl) rfl q1530 dX6_looks_137 ?_
          refine z_iload F dX6_looks_140 rfl ?_
          refine z_zaldGN F rfl rfl (Nat.le_of_ble_eq_true rfl) (by omega) rfl dX6_looks_142 ?_
          refine z_ieq (y := bI true) (st50 A3 b true _) ?_
          refine z_if_neB F (tgt := 149) dX6_looks_143 (by decide) (fun c_143 => ?_) (fun c_143 => ?_)
          · refine z_loc _ ?_ (kt F3 A3 (by
              rw [ef, hp0, c_100]
              show (true && decide (p.1 ≤ k)) = true
              rw [decide_eq_true (by omega)]; rfl) g1 g2)
            exact ⟨rfl, rfl, rfl, rfl, rfl, rfl, trivial⟩
          · cases c_143
  have scan : ∀ (m b : Nat) (F1 : Nat → Int32) (A1 : Nat → Nat → Int32), 2 ^ pcn n n - b < m → b ≤ 2 ^ pcn n n → frm [4, 5, 24, 25, 46, 47, 48, 49] F0 F1 → frm [6, 23, 50, 51, 52, 53] A A1 → F1 46 = nI (fb_ct (ftN n d k) b) → F1 47 = nI 0 → F1 48 = fwI (fwF (ftN n d k) b) → F1 49 = lsI (fwF (ftN n d k) b) → (∀ v, v < b → A1 50 v = bI (ftN n d k v)) → (∀ v, v < b → A1 51 v = bI false) → Z X [some (zr 1 0), some (zi (nI n)), some (zi (nI d)), some (zi (nI k)), some (zi (nI (2 ^ pcn n n))), some (zi (nI b)), none, none] [] [zH, zG F1 G A1 B] 0 0 34 := by
    intro m
    induction m with
    | zero => intro b F1 A1 hm; omega
    | succ m ih =>
      intro b F1 A1 hm hb hF hA h46 h47 h48 h49 h50 h51
      have i1 := fun F2 A2 z => ih (b + 1) F2 A2 (by omega) z
      rw [fb_ct_succ, fwF] at i1
      -- what is kept of a net
      have put50 : ∀ (A2 : Nat → Nat → Int32) (x : Bool), (∀ v, v < b → A2 50 v = bI (ftN n d k v)) → (∀ v, v < b → A2 51 v = bI false) → x = ftN n d k b → (∀ v, v < b + 1 → zup2 (zup2 A2 50 b (vp_nar .boolean (bI x))) 51 b (vp_nar .boolean (nI 0)) 50 v = bI (ftN n d k v)) ∧ ∀ v, v < b + 1 → zup2 (zup2 A2 50 b (vp_nar .boolean (bI x))) 51 b (vp_nar .boolean (nI 0)) 51 v = bI false := fun A2 x q1 q2 q3 => by
        refine ⟨fun v hv => ?_, fun v hv => ?_⟩
        · rw [zup2_pq, if_neg (by omega), zup2_pq]
          by_cases e : v = b
          · rw [if_pos ⟨rfl, e⟩, nar_bI, q3, e]
          · rw [if_neg (fun z => e z.2)]; exact q1 v (by omega)
        · rw [zup2_pq]
          by_cases e : v = b
          · rw [if_pos ⟨rfl, e⟩]; rfl
          · rw [if_neg (fun z => e z.2), zup2_pq, if_neg (by omega)]; exact q2 v (by omega)
      refine z_iload F dX6_looks_34 rfl ?_
      refine z_iload F dX6_looks_36 rfl ?_
      refine z_icmp_geN F (by omega) (by omega) (tgt := 203) dX6_looks_38 (by decide) (fun c_38 => ?_) (fun c_38 => ?_)
      · obtain rfl : b = 2 ^ pcn n n := by omega
        refine z_iconst F (nI 0) dX6_looks_203 rfl ?_
        refine z_istore F dX6_looks_204 (Nat.le_of_ble_eq_true rfl) ?_
        refine z_leq (L' := [_, _, _, _, _, _, _, _]) rfl ?_
        exact kinds _ 0 F1 A1 (Nat.lt_succ_self _) (Nat.zero_le _) hF hA h46 h47 h48 h49 h50 (fun v hv => ⟨fun z => z.elim, fun _ => h51 v hv⟩)
      · refine z_aload_n F dX6_looks_41 rfl ?_
        refine z_iload_n F dX6_looks_42 rfl ?_
        refine z_iload F dX6_looks_43 rfl ?_
        refine z_callV F (c_msketch _ _ _ _ n b h1 hn) 2 rfl (lw_V q1998 q2000 qs82 q117 q2001) (by decide +kernel) ⟨Nat.le_of_ble_eq_true rfl, Nat.le_of_ble_eq_true rfl⟩ ⟨by omega, by omega⟩ [0, 1] 2 ⟨rfl, rfl, rfl, ⟨Or.inl rfl, Or.inr rfl, trivial⟩⟩ (fun h => nomatch h) (Nat.le_of_ble_eq_true rfl) ⟨⟨Or.inr trivial, Or.inl rfl, trivial⟩, rfl, rfl, rfl, Nat.le_of_ble_eq_true rfl⟩ rfl zC6 (zat_G0 rfl) rfl dX6_looks_45 (fun r_45 w_45 hp => ?_) (fun _ _ h => h.elim)
        obtain ⟨rfl, F2, A2, rfl, f2, a2, s1, s2, s3⟩ := hp
        refine z_weq (w' := [zH, zG _ _ _ _]) rfl ?_
        refine z_seq (S' := []) rfl ?_
        refine z_iconstB F true dX6_looks_48 rfl ?_
        refine z_istore F dX6_looks_49 (Nat.le_of_ble_eq_true rfl) ?_
        refine z_leq (L' := [_, _, _, _, _, _, _, _]) rfl ?_
        refine z_iconst F (nI 0) dX6_looks_51 rfl ?_
        refine z_istore F dX6_looks_52 (Nat.le_of_ble_eq_true rfl) ?_
        refine z_leq (L' := [_, _, _, _, _, _, _, _]) rfl ?_
        refine chk F2 A2 b s2 (fun v hv => s2 v (by omega)) ?_ (n + 1) 0 (by omega) (by omega)
        have hF2 := hF.tr f2 (l2 := [4, 5, 24, 25, 46, 47, 48, 49]) (by decide) (by decide)
        have hA2 := hA.tr a2 (l2 := [6, 23, 50, 51, 52, 53]) (by decide) (by decide)
        have gen : ∀ F3 A3 (x : Bool), x = ftN n d k b → frm [24, 25] F2 F3 → frm [23] A2 A3 → frm [4, 5, 24, 25, 46, 47, 48, 49] F0 F3 ∧ frm [6, 23, 50, 51, 52, 53] A (zup2 (zup2 A3 50 b (vp_nar .boolean (bI x))) 51 b (vp_nar .boolean (nI 0))) ∧ F3 46 = nI (fb_ct (ftN n d k) b) ∧ F3 47 = nI 0 ∧ F3 48 = fwI (fwF (ftN n d k) b) ∧ F3 49 = lsI (fwF (ftN n d k) b) ∧ (∀ v, v < b + 1 → zup2 (zup2 A3 50 b (vp_nar .boolean (bI x))) 51 b (vp_nar .boolean (nI 0)) 50 v = bI (ftN n d k v)) ∧ ∀ v, v < b + 1 → zup2 (zup2 A3 50 b (vp_nar .boolean (bI x))) 51 b (vp_nar .boolean (nI 0)) 51 v = bI false := fun F3 A3 x e f3 a3 => by
          obtain ⟨w1, w2⟩ := put50 A3 x (fun v hv => by rw [a3.at 50 rfl, a2.at 50 rfl]; exact h50 v hv) (fun v hv => by rw [a3.at 51 rfl, a2.at 51 rfl]; exact h51 v hv) e
          exact ⟨hF2.tr f3 (by decide) (by decide), frm_zup (frm_zup (hA2.tr a3 (by decide) (by decide)) (by decide)) (by decide), by rw [f3.at 46 rfl, f2.at 46 rfl]; exact h46, by rw [f3.at 47 rfl, f2.at 47 rfl]; exact h47, by rw [f3.at 48 rfl, f2.at 48 rfl]; exact h48, by rw [f3.at 49 rfl, f2.at 49 rfl]; exact h49, w1, w2⟩
        refine mid F2 A2 b (by omega) s1 s2 (fun F3 A3 e f3 a3 => ?_) (fun F3 A3 e f3 a3 => ?_)
        · obtain ⟨y1, y2, g46, g47, g48, g49, w1, w2⟩ := gen F3 A3 false e.symm f3 a3
          rw [e, if_neg (by decide), if_neg (by decide)] at i1
          exact i1 F3 _ (by omega) y1 y2 g46 g47 g48 g49 w1 w2
        · obtain ⟨y1, y2, g46, g47, g48, g49, w1, w2⟩ := gen F3 A3 true e.symm f3 a3
          rw [e, if_pos rfl, if_pos rfl] at i1
          refine tail F3 _ b _ (by omega) g46 g48 g49 (fun F4 f4 k1 k2 k3 => ?_)
          exact i1 F4 _ (by omega) (y1.tr f4 (by decide) (by decide)) y2 k1 (by rw [f4.at 47 rfl]; exact g47) k2 k3 w1 w2
  refine z_aload_n F dX6_looks_0 rfl ?_
  refine z_iconst F (nI 0) dX6_looks_1 rfl ?_
  refine z_pmi F rfl 46 rfl (Nat.le_of_ble_eq_true rfl) rfl q1526 rfl rfl rfl dX6_looks_2 ?_
  refine z_weq (w' := [_, _]) rfl ?_
  refine z_aload_n F dX6_looks_5 rfl ?_
  refine z_iconst F (nI 0) dX6_looks_6 rfl ?_
  refine z_pmi F rfl 47 rfl (Nat.le_of_ble_eq_true rfl) rfl q1527 rfl rfl rfl dX6_looks_7 ?_
  refine z_weq (w' := [_, _]) rfl ?_
  refine z_aload_n F dX6_looks_10 rfl ?_
  refine z_iconst F (-1) dX6_looks_11 rfl ?_
  refine z_pmi F rfl 48 rfl (Nat.le_of_ble_eq_true rfl) rfl q1528 rfl rfl rfl dX6_looks_12 ?_
  refine z_weq (w' := [_, _]) rfl ?_
  refine z_aload_n F dX6_looks_15 rfl ?_
  refine z_iconst F (-1) dX6_looks_16 rfl ?_
  refine z_pmi F rfl 49 rfl (Nat.le_of_ble_eq_true rfl) rfl q1529 rfl rfl rfl dX6_looks_17 ?_
  refine z_weq (w' := [_, _]) rfl ?_
  refine z_iconst F (nI 1) dX6_looks_20 rfl ?_
  refine z_iload_n F dX6_looks_21 rfl ?_
  refine z_iload_n F dX6_looks_22 rfl ?_
  refine z_iconst F (nI 1) dX6_looks_23 rfl ?_
  refine z_isubN F (by omega) dX6_looks_24 ?_
  refine z_imulN F dX6_looks_25 ?_
  refine z_iconst F (nI 2) dX6_looks_26 rfl ?_
  refine z_idivN F (by omega) (by omega) (by omega) dX6_looks_27 ?_
  refine z_ishl F dX6_looks_28 ?_
  refine z_ieq (hsh) ?_
  refine z_istore F dX6_looks_29 (Nat.le_of_ble_eq_true rfl) ?_
  refine z_leq (L' := [_, _, _, _, _, _, _, _]) rfl ?_
  refine z_iconst F (nI 0) dX6_looks_31 rfl ?_
  refine z_istore F dX6_looks_32 (Nat.le_of_ble_eq_true rfl) ?_
  refine z_leq (L' := [_, _, _, _, _, _, _, _]) rfl ?_
  exact scan _ 0 _ A (Nat.lt_succ_self _) (Nat.zero_le _) (frm_upd (frm_upd (frm_upd (frm_upd frm.rf (by decide)) (by decide)) (by decide)) (by decide)) frm.rf rfl rfl rfl rfl (fun v hv => absurd hv (by omega)) (fun v hv => absurd hv (by omega))
end C9n
